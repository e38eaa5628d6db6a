/-! model: methods that only read, 2 -/
set_option maxRecDepth 100000
theorem hd_X11_openBy : yX11_openBy.cls ≠ "java/lang/invoke/MethodHandle" ∧ yX11_openBy.cls ≠ "java/lang/invoke/VarHandle" ∧ (parseMethodDescriptor yX11_openBy.desc).map (fun d => d.parameters.length) = some 1 := by decide +kernel
/-- X11_openBy -/
theorem m_X11_openBy (l : Launch) (D : va_G) (y : Nat → ClassId) (c : Nat → Nat) (J : MJ) (S : St) (hI : StOk S) (hO : MOk S J) (k : Nat) (hk : k < 2147483648) : Met l yX11_openBy (ws_ yX11_openBy cX11_openBy 4 (some .int)) ({ frames := 1, cells := 0, slots := 0, locals := 23 }) (va_Pc [.ref (c 0), .int (nI k)] (WR D y (cellsM y c J))) (QcRead (nI (wideF S k S.str))) 0 0 (fun _ => False) := by
  refine x_start (by decide) (Nat.le_of_ble_eq_true rfl) ?_
  intro p e s m below meth cd ls hx hb hr hts hml hown hlocks hnm hB hl
  have hC := hB.1
  obtain ⟨⟨hK, hN⟩, hP⟩ := hB
  have hown : s.vm.findClass RX11 = some m.cls := hown
  have hl : lv_has ls 4 [(0, .ref (c 0)), (1, .int (nI k))] := hl
  have i1 := hI.str
  refine lv_iconst (v := nI 0) hx hb dX11_openBy_0 (by decide) ?_
  refine lv_istore_n (lv' := [(2, .int (nI 0)), (0, .ref (c 0)), (1, .int (nI k))]) hx hb dX11_openBy_1 rfl hl (by decide) rfl (fun ls hl => ?_)
  refine lv_iconst (v := nI 0) hx hb dX11_openBy_2 (by decide) ?_
  refine lv_istore_n (lv' := [(3, .int (nI 0)), (2, .int (nI 0)), (0, .ref (c 0)), (1, .int (nI k))]) hx hb dX11_openBy_3 rfl hl (by decide) rfl (fun ls hl => ?_)
  refine w_loop (nL := 4) 4 (fun i => [(0, .ref (c 0)), (1, .int (nI k)), (2, .int (nI (wideF S k i))), (3, .int (nI i))]) (fun i => i ≤ S.str) (fun i => S.str - i) ?_ 0 (Nat.zero_le _) ls (lv_sub hl [2, 3, 1, 0] rfl)
  rintro i hi ih ls hl
  have hl : lv_has ls 4 [(0, .ref (c 0)), (1, .int (nI k)), (2, .int (nI (wideF S k i))), (3, .int (nI i))] := hl
  refine lv_iload_n hx hb dX11_openBy_4 rfl (lv_at hl 3 rfl) ?_
  refine lv_aload_n hx hb dX11_openBy_5 rfl (lv_at hl 0 rfl) ?_
  refine va_get (D := D) (ci := 11) (v := .ref (c 3)) (C := RX11) (T := TX11) (N := 26) hx hb hts in_X11 hown hK hP 0 rfl rfl 3 (by decide) (hts _ q828) (fun _ h9 => h9) rfl dX11_openBy_6 ?_
  refine lv_iconst (v := nI 0) hx hb dX11_openBy_9 (by decide) ?_
  refine n_iald (v := nI S.str) hx hb hK hP 3 0 rfl rfl (j := 0) (by omega) (by decide) (hO.str) dX11_openBy_10 ?_
  refine n_icmp_ge (tgt := 39) hx hb dX11_openBy_11 (by decide) (by omega) (by omega) (fun h1 => ?_) (fun h1 => ?_)
  · refine lv_iload_n hx hb dX11_openBy_39 rfl (lv_at hl 2 rfl) ?_
    exact n_iret (Qc := fun _ _ _ _ => True) hx hb hr hlocks (by rw [show i = S.str by omega]) dX11_openBy_40
  have h2 := wid_le hI.now (show i < S.str by omega)
  refine n_cut 31 [.int (nI (if k ≤ wid S.now i then 2 ^ i else 0)), .int (nI (wideF S k i))] (fun K => ?_) ?_
  · refine lv_iload_n hx hb dX11_openBy_14 rfl (lv_at hl 2 rfl) ?_
    refine lv_aload_n hx hb dX11_openBy_15 rfl (lv_at hl 0 rfl) ?_
    refine lv_iload_n hx hb dX11_openBy_16 rfl (lv_at hl 3 rfl) ?_
    refine va_callR (va_runV (As := [.int (nI i)]) (rest := [.int (nI (wideF S k i))]) ⟨hx, hb, hml, hown, hts⟩ (m_X11_widthOf l D y c J S hI hO i (by omega)) (cwV 1 hts (lw_V q955 q957 qs37 q65 q958) rfl rfl rfl ⟨rfl, hd_X11_widthOf⟩ ⟨Nat.le_of_ble_eq_true rfl, Nat.le_of_ble_eq_true rfl⟩) (preVR hC hP 11 0 rfl rfl) rfl rfl hl.1 rfl (lv_room (Nat.le_of_ble_eq_true rfl)) dX11_openBy_17 ⟨Nat.le_of_ble_eq_true rfl, Nat.le_of_ble_eq_true rfl⟩) ?_
    refine lv_iload_n hx hb dX11_openBy_20 rfl (lv_at hl 1 rfl) ?_
    refine n_icmp_lt (tgt := 30) hx hb dX11_openBy_21 (by decide) (by omega) (by omega) (fun h3 => ?_) (fun h3 => ?_)
    · refine lv_iconst (v := nI 0) hx hb dX11_openBy_30 (by decide) ?_
      exact n_top (by rw [if_neg (by omega)]) K
    refine lv_iconst (v := nI 1) hx hb dX11_openBy_24 (by decide) ?_
    refine lv_iload_n hx hb dX11_openBy_25 rfl (lv_at hl 3 rfl) ?_
    refine n_shl1 hx hb dX11_openBy_26 (by omega) ?_
    refine lv_goto (tgt := 31) hx hb dX11_openBy_27 (by decide) ?_
    exact n_top (by rw [if_pos h3]) K
  refine n_or hx hb dX11_openBy_31 ?_
  refine lv_istore_n (lv' := [(2, .int (nI ((wideF S k i) ||| (if k ≤ wid S.now i then 2 ^ i else 0)))), (0, .ref (c 0)), (1, .int (nI k)), (3, .int (nI i))]) hx hb dX11_openBy_32 rfl hl (by decide) rfl (fun ls hl => ?_)
  refine lv_iinc (v := nI (i + 1)) (lv' := [(3, .int (nI (i + 1))), (2, .int (nI ((wideF S k i) ||| (if k ≤ wid S.now i then 2 ^ i else 0)))), (0, .ref (c 0)), (1, .int (nI k))]) hx hb dX11_openBy_33 hl (k := 3) rfl (nI_inc _) (by decide) rfl (fun ls hl => ?_)
  refine lv_goto (tgt := 4) hx hb dX11_openBy_36 (by decide) ?_
  exact ih (i + 1) (by omega) (by omega) ls (lv_sub hl [2, 3, 1, 0] rfl)
theorem hd_X11_wayBy : yX11_wayBy.cls ≠ "java/lang/invoke/MethodHandle" ∧ yX11_wayBy.cls ≠ "java/lang/invoke/VarHandle" ∧ (parseMethodDescriptor yX11_wayBy.desc).map (fun d => d.parameters.length) = some 3 := by decide +kernel
/-- X11_wayBy -/
theorem m_X11_wayBy (l : Launch) (D : va_G) (y : Nat → ClassId) (c : Nat → Nat) (J : MJ) (S : St) (hI : StOk S) (hO : MOk S J) (a b sm : Nat) (ha : a < 8) (h0b : b < 8) (hs : sm < 512) : Met l yX11_wayBy (ws_ yX11_wayBy cX11_wayBy 9 (some .int)) ({ frames := 1, cells := 0, slots := 0, locals := 21 }) (va_Pc [.ref (c 0), .int (nI a), .int (nI b), .int (nI sm)] (WR D y (cellsM y c J))) (QcRead (farF S a b sm)) 0 0 (fun _ => False) := by
  refine x_start (by decide) (Nat.le_of_ble_eq_true rfl) ?_
  intro p e s m below meth cd ls hx hb hr hts hml hown hlocks hnm hB hl
  have hC := hB.1
  obtain ⟨⟨hK, hN⟩, hP⟩ := hB
  have hown : s.vm.findClass RX11 = some m.cls := hown
  have hl : lv_has ls 9 [(0, .ref (c 0)), (1, .int (nI a)), (2, .int (nI b)), (3, .int (nI sm))] := hl
  have i1 := hI.str
  refine lv_iconst (v := nI 1) hx hb dX11_wayBy_0 (by decide) ?_
  refine lv_iload_n hx hb dX11_wayBy_1 rfl (lv_at hl 1 rfl) ?_
  refine n_shl1 hx hb dX11_wayBy_2 (by omega) ?_
  refine lv_istore (lv' := [(4, .int (nI (2 ^ a))), (0, .ref (c 0)), (1, .int (nI a)), (2, .int (nI b)), (3, .int (nI sm))]) hx hb dX11_wayBy_3 hl (by decide) rfl (fun ls hl => ?_)
  refine lv_iconst (v := nI 0) hx hb dX11_wayBy_5 (by decide) ?_
  refine lv_istore (lv' := [(5, .int (nI 0)), (4, .int (nI (2 ^ a))), (0, .ref (c 0)), (1, .int (nI a)), (2, .int (nI b)), (3, .int (nI sm))]) hx hb dX11_wayBy_6 hl (by decide) rfl (fun ls hl => ?_)
  refine w_loop (nL := 9) 8 (fun n => [(0, .ref (c 0)), (1, .int (nI a)), (2, .int (nI b)), (3, .int (nI sm)), (4, .int (nI (metF S a sm n))), (5, .int (nI n))]) (fun n => n ≤ 8 ∧ farF S a b sm = scanF (fun n => (metF S a sm n).testBit b) n (8 - n)) (fun n => 8 - n) ?_ 0 (⟨by omega, rfl⟩) ls (lv_sub hl [2, 3, 4, 5, 1, 0] rfl)
  rintro n hi ih ls hl
  have hl : lv_has ls 9 [(0, .ref (c 0)), (1, .int (nI a)), (2, .int (nI b)), (3, .int (nI sm)), (4, .int (nI (metF S a sm n))), (5, .int (nI n))] := hl
  obtain ⟨hn, he⟩ := hi
  have h2 := metF_lt hI (some := sm) ha n
  refine lv_iload hx hb dX11_wayBy_8 (lv_at hl 5 rfl) ?_
  refine lv_bipush (v := nI 8) hx hb dX11_wayBy_10 (by decide) ?_
  refine n_icmp_ge (tgt := 140) hx hb dX11_wayBy_12 (by decide) (by omega) (by omega) (fun h1 => ?_) (fun h1 => ?_)
  · refine lv_bipush (v := (-9)) hx hb dX11_wayBy_140 (by decide) ?_
    exact n_iret (Qc := fun _ _ _ _ => True) hx hb hr hlocks (by rw [he, show 8 - n = 0 by omega]; rfl) dX11_wayBy_142
  rw [show 8 - n = (8 - (n + 1)) + 1 by omega] at he
  refine lv_iload hx hb dX11_wayBy_15 (lv_at hl 4 rfl) ?_
  refine lv_iload_n hx hb dX11_wayBy_17 rfl (lv_at hl 2 rfl) ?_
  refine va_callR (va_runS (As := [.int (nI (metF S a sm n)), .int (nI b)]) (rest := []) ⟨hx, hb, hml, hown, hts⟩ (m_X11_has l (metF S a sm n) b (by omega) (by omega)) (va_cwS 2 hts (lw_S q1034 q1035 q65 q1036) rfl rfl rfl hd_X11_has ⟨Nat.le_of_ble_eq_true rfl, Nat.le_of_ble_eq_true rfl⟩) pre0 rfl rfl hl.1 rfl (lv_room (Nat.le_of_ble_eq_true rfl)) dX11_wayBy_18 ⟨Nat.le_of_ble_eq_true rfl, Nat.le_of_ble_eq_true rfl⟩) ?_
  refine z_if_eq (tgt := 27) hx hb dX11_wayBy_21 (by decide) (fun h3 => ?_) (fun h3 => ?_)
  rotate_left
  · refine lv_iload hx hb dX11_wayBy_24 (lv_at hl 5 rfl) ?_
    exact n_iret (Qc := fun _ _ _ _ => True) hx hb hr hlocks (by rw [he]; show _ = (if _ then _ else _); rw [if_pos h3]) dX11_wayBy_26
  have ihn := ih
  refine lv_iload hx hb dX11_wayBy_27 (lv_at hl 4 rfl) ?_
  refine lv_istore (lv' := [(6, .int (nI (metF S a sm n))), (0, .ref (c 0)), (1, .int (nI a)), (2, .int (nI b)), (3, .int (nI sm)), (4, .int (nI (metF S a sm n))), (5, .int (nI n))]) hx hb dX11_wayBy_29 hl (by decide) rfl (fun ls hl => ?_)
  refine lv_iconst (v := nI 0) hx hb dX11_wayBy_31 (by decide) ?_
  refine lv_istore (lv' := [(7, .int (nI 0)), (6, .int (nI (metF S a sm n))), (0, .ref (c 0)), (1, .int (nI a)), (2, .int (nI b)), (3, .int (nI sm)), (4, .int (nI (metF S a sm n))), (5, .int (nI n))]) hx hb dX11_wayBy_32 hl (by decide) rfl (fun ls hl => ?_)
  refine w_loop (nL := 9) 34 (fun i => [(0, .ref (c 0)), (1, .int (nI a)), (2, .int (nI b)), (3, .int (nI sm)), (4, .int (nI (metF S a sm n))), (5, .int (nI n)), (6, .int (nI (nextF S (metF S a sm n) sm i))), (7, .int (nI i))]) (fun i => i ≤ S.str) (fun i => S.str - i) ?_ 0 (Nat.zero_le _) ls (lv_sub hl [2, 3, 4, 5, 6, 7, 1, 0] rfl)
  rintro i hi2 ih ls hl
  have hl : lv_has ls 9 [(0, .ref (c 0)), (1, .int (nI a)), (2, .int (nI b)), (3, .int (nI sm)), (4, .int (nI (metF S a sm n))), (5, .int (nI n)), (6, .int (nI (nextF S (metF S a sm n) sm i))), (7, .int (nI i))] := hl
  refine lv_iload hx hb dX11_wayBy_34 (lv_at hl 7 rfl) ?_
  refine lv_aload_n hx hb dX11_wayBy_36 rfl (lv_at hl 0 rfl) ?_
  refine va_get (D := D) (ci := 11) (v := .ref (c 3)) (C := RX11) (T := TX11) (N := 26) hx hb hts in_X11 hown hK hP 0 rfl rfl 3 (by decide) (hts _ q828) (fun _ h9 => h9) rfl dX11_wayBy_37 ?_
  refine lv_iconst (v := nI 0) hx hb dX11_wayBy_40 (by decide) ?_
  refine n_iald (v := nI S.str) hx hb hK hP 3 0 rfl rfl (j := 0) (by omega) (by decide) (hO.str) dX11_wayBy_41 ?_
  refine n_icmp_ge (tgt := 130) hx hb dX11_wayBy_42 (by decide) (by omega) (by omega) (fun h4 => ?_) (fun h4 => ?_)
  · have e9 : S.str = i := by omega
    refine lv_iload hx hb dX11_wayBy_130 (lv_at hl 6 rfl) ?_
    refine lv_istore (lv' := [(4, .int (nI (nextF S (metF S a sm n) sm i))), (0, .ref (c 0)), (1, .int (nI a)), (2, .int (nI b)), (3, .int (nI sm)), (5, .int (nI n)), (6, .int (nI (nextF S (metF S a sm n) sm i))), (7, .int (nI i))]) hx hb dX11_wayBy_132 hl (by decide) rfl (fun ls hl => ?_)
    refine lv_iinc (v := nI (n + 1)) (lv' := [(5, .int (nI (n + 1))), (4, .int (nI (nextF S (metF S a sm n) sm i))), (0, .ref (c 0)), (1, .int (nI a)), (2, .int (nI b)), (3, .int (nI sm)), (6, .int (nI (nextF S (metF S a sm n) sm i))), (7, .int (nI i))]) hx hb dX11_wayBy_134 hl (k := 5) rfl (nI_inc _) (by decide) rfl (fun ls hl => ?_)
    refine lv_goto (tgt := 8) hx hb dX11_wayBy_137 (by decide) ?_
    rw [← e9] at hl
    exact ihn (n + 1) (⟨by omega, by rw [he]; show (if _ then _ else _) = _; rw [if_neg (bnf h3)]⟩) (by omega) ls (lv_sub hl [2, 3, 4, 5, 1, 0] rfl)
  have y1 := hI.one i (by omega)
  have y2 := hI.oth i (by omega)
  have y0 := hI.yds
  refine n_cut 80 [.int (zb (Nat.testBit (metF S a sm n) (S.one i) || Nat.testBit (metF S a sm n) (S.oth i)))] (fun K => ?_) ?_
  · refine lv_iload hx hb dX11_wayBy_45 (lv_at hl 4 rfl) ?_
    refine lv_aload_n hx hb dX11_wayBy_47 rfl (lv_at hl 0 rfl) ?_
    refine va_get (D := D) (ci := 11) (v := .ref (c 4)) (C := RX11) (T := TX11) (N := 26) hx hb hts in_X11 hown hK hP 0 rfl rfl 4 (by decide) (hts _ q829) (fun _ h9 => h9) rfl dX11_wayBy_48 ?_
    refine lv_iload hx hb dX11_wayBy_51 (lv_at hl 7 rfl) ?_
    refine n_iald (v := nI (S.one i)) hx hb hK hP 4 0 rfl rfl (j := i) (by omega) (by decide) (hO.one i (by omega)) dX11_wayBy_53 ?_
    refine va_callR (va_runS (As := [.int (nI (metF S a sm n)), .int (nI (S.one i))]) (rest := []) ⟨hx, hb, hml, hown, hts⟩ (m_X11_has l (metF S a sm n) (S.one i) (by omega) (by omega)) (va_cwS 2 hts (lw_S q1034 q1035 q65 q1036) rfl rfl rfl hd_X11_has ⟨Nat.le_of_ble_eq_true rfl, Nat.le_of_ble_eq_true rfl⟩) pre0 rfl rfl hl.1 rfl (lv_room (Nat.le_of_ble_eq_true rfl)) dX11_wayBy_54 ⟨Nat.le_of_ble_eq_true rfl, Nat.le_of_ble_eq_true rfl⟩) ?_
    refine z_if_ne (tgt := 75) hx hb dX11_wayBy_57 (by decide) (fun h5 => ?_) (fun h5 => ?_)
    · refine lv_iconst (v := nI 1) hx hb dX11_wayBy_75 (by decide) ?_
      refine lv_goto (tgt := 80) hx hb dX11_wayBy_76 (by decide) ?_
      exact n_top (by rw [h5, Bool.true_or]; decide) K
    refine lv_iload hx hb dX11_wayBy_60 (lv_at hl 4 rfl) ?_
    refine lv_aload_n hx hb dX11_wayBy_62 rfl (lv_at hl 0 rfl) ?_
    refine va_get (D := D) (ci := 11) (v := .ref (c 5)) (C := RX11) (T := TX11) (N := 26) hx hb hts in_X11 hown hK hP 0 rfl rfl 5 (by decide) (hts _ q830) (fun _ h9 => h9) rfl dX11_wayBy_63 ?_
    refine lv_iload hx hb dX11_wayBy_66 (lv_at hl 7 rfl) ?_
    refine n_iald (v := nI (S.oth i)) hx hb hK hP 5 0 rfl rfl (j := i) (by omega) (by decide) (hO.oth i (by omega)) dX11_wayBy_68 ?_
    refine va_callR (va_runS (As := [.int (nI (metF S a sm n)), .int (nI (S.oth i))]) (rest := []) ⟨hx, hb, hml, hown, hts⟩ (m_X11_has l (metF S a sm n) (S.oth i) (by omega) (by omega)) (va_cwS 2 hts (lw_S q1034 q1035 q65 q1036) rfl rfl rfl hd_X11_has ⟨Nat.le_of_ble_eq_true rfl, Nat.le_of_ble_eq_true rfl⟩) pre0 rfl rfl hl.1 rfl (lv_room (Nat.le_of_ble_eq_true rfl)) dX11_wayBy_69 ⟨Nat.le_of_ble_eq_true rfl, Nat.le_of_ble_eq_true rfl⟩) ?_
    refine z_if_eq (tgt := 79) hx hb dX11_wayBy_72 (by decide) (fun h6 => ?_) (fun h6 => ?_)
    · refine lv_iconst (v := nI 0) hx hb dX11_wayBy_79 (by decide) ?_
      exact n_top (by rw [h5, h6]; decide) K
    refine lv_iconst (v := nI 1) hx hb dX11_wayBy_75 (by decide) ?_
    refine lv_goto (tgt := 80) hx hb dX11_wayBy_76 (by decide) ?_
    exact n_top (by rw [h6, Bool.or_true]; decide) K
  refine lv_istore (lv' := [(8, .int (zb (Nat.testBit (metF S a sm n) (S.one i) || Nat.testBit (metF S a sm n) (S.oth i)))), (0, .ref (c 0)), (1, .int (nI a)), (2, .int (nI b)), (3, .int (nI sm)), (4, .int (nI (metF S a sm n))), (5, .int (nI n)), (6, .int (nI (nextF S (metF S a sm n) sm i))), (7, .int (nI i))]) hx hb dX11_wayBy_80 hl (by decide) rfl (fun ls hl => ?_)
  refine lv_iload hx hb dX11_wayBy_82 (lv_at hl 7 rfl) ?_
  refine n_cut 121 [.int (nI (if Nat.testBit sm i = true ∧ (Nat.testBit (metF S a sm n) (S.one i) || Nat.testBit (metF S a sm n) (S.oth i)) = true then 2 ^ S.one i ||| 2 ^ S.oth i else 0)), .int (nI (nextF S (metF S a sm n) sm i))] (fun K => ?_) ?_
  · refine lv_iload_n hx hb dX11_wayBy_84 rfl (lv_at hl 4 rfl) ?_
    refine lv_iload hx hb dX11_wayBy_85 (lv_at hl 8 rfl) ?_
    refine va_callR (va_runS (As := [.int (nI sm), .int (nI i)]) (rest := [.int (nI (nextF S (metF S a sm n) sm i))]) ⟨hx, hb, hml, hown, hts⟩ (m_X11_has l sm i (by omega) (by omega)) (va_cwS 2 hts (lw_S q1034 q1035 q65 q1036) rfl rfl rfl hd_X11_has ⟨Nat.le_of_ble_eq_true rfl, Nat.le_of_ble_eq_true rfl⟩) pre0 rfl rfl hl.1 rfl (lv_room (Nat.le_of_ble_eq_true rfl)) dX11_wayBy_87 ⟨Nat.le_of_ble_eq_true rfl, Nat.le_of_ble_eq_true rfl⟩) ?_
    refine z_if_eq (tgt := 120) hx hb dX11_wayBy_90 (by decide) (fun h7 => ?_) (fun h7 => ?_)
    · refine lv_iconst (v := nI 0) hx hb dX11_wayBy_120 (by decide) ?_
      exact n_top (by rw [if_neg (fun q => bnf h7 q.1)]) K
    refine lv_iload hx hb dX11_wayBy_93 (lv_at hl 0 rfl) ?_
    refine z_if_eq (tgt := 120) hx hb dX11_wayBy_95 (by decide) (fun h8 => ?_) (fun h8 => ?_)
    · refine lv_iconst (v := nI 0) hx hb dX11_wayBy_120 (by decide) ?_
      exact n_top (by rw [if_neg (fun q => bnf h8 q.2)]) K
    refine lv_iconst (v := nI 1) hx hb dX11_wayBy_98 (by decide) ?_
    refine lv_aload_n hx hb dX11_wayBy_99 rfl (lv_at hl 1 rfl) ?_
    refine va_get (D := D) (ci := 11) (v := .ref (c 4)) (C := RX11) (T := TX11) (N := 26) hx hb hts in_X11 hown hK hP 0 rfl rfl 4 (by decide) (hts _ q829) (fun _ h9 => h9) rfl dX11_wayBy_100 ?_
    refine lv_iload hx hb dX11_wayBy_103 (lv_at hl 8 rfl) ?_
    refine n_iald (v := nI (S.one i)) hx hb hK hP 4 0 rfl rfl (j := i) (by omega) (by decide) (hO.one i (by omega)) dX11_wayBy_105 ?_
    refine n_shl1 hx hb dX11_wayBy_106 (by omega) ?_
    refine lv_iconst (v := nI 1) hx hb dX11_wayBy_107 (by decide) ?_
    refine lv_aload_n hx hb dX11_wayBy_108 rfl (lv_at hl 1 rfl) ?_
    refine va_get (D := D) (ci := 11) (v := .ref (c 5)) (C := RX11) (T := TX11) (N := 26) hx hb hts in_X11 hown hK hP 0 rfl rfl 5 (by decide) (hts _ q830) (fun _ h9 => h9) rfl dX11_wayBy_109 ?_
    refine lv_iload hx hb dX11_wayBy_112 (lv_at hl 8 rfl) ?_
    refine n_iald (v := nI (S.oth i)) hx hb hK hP 5 0 rfl rfl (j := i) (by omega) (by decide) (hO.oth i (by omega)) dX11_wayBy_114 ?_
    refine n_shl1 hx hb dX11_wayBy_115 (by omega) ?_
    refine n_or hx hb dX11_wayBy_116 ?_
    refine lv_goto (tgt := 121) hx hb dX11_wayBy_117 (by decide) ?_
    exact n_top (by rw [if_pos ⟨h7, h8⟩]) K
  refine n_or hx hb dX11_wayBy_121 ?_
  refine n_top (y := nI (nextF S (metF S a sm n) sm (i + 1))) (congrArg nI next_step) ?_
  refine lv_istore (lv' := [(6, .int (nI (nextF S (metF S a sm n) sm (i + 1)))), (8, .int (zb (Nat.testBit (metF S a sm n) (S.one i) || Nat.testBit (metF S a sm n) (S.oth i)))), (0, .ref (c 0)), (1, .int (nI a)), (2, .int (nI b)), (3, .int (nI sm)), (4, .int (nI (metF S a sm n))), (5, .int (nI n)), (7, .int (nI i))]) hx hb dX11_wayBy_122 hl (by decide) rfl (fun ls hl => ?_)
  refine lv_iinc (v := nI (i + 1)) (lv' := [(7, .int (nI (i + 1))), (6, .int (nI (nextF S (metF S a sm n) sm (i + 1)))), (8, .int (zb (Nat.testBit (metF S a sm n) (S.one i) || Nat.testBit (metF S a sm n) (S.oth i)))), (0, .ref (c 0)), (1, .int (nI a)), (2, .int (nI b)), (3, .int (nI sm)), (4, .int (nI (metF S a sm n))), (5, .int (nI n))]) hx hb dX11_wayBy_124 hl (k := 8) rfl (nI_inc _) (by decide) rfl (fun ls hl => ?_)
  refine lv_goto (tgt := 34) hx hb dX11_wayBy_127 (by decide) ?_
  exact ih (i + 1) (by omega) (by omega) ls (lv_sub hl [3, 4, 5, 6, 7, 8, 1, 0] rfl)
theorem hd_X11_widest : yX11_widest.cls ≠ "java/lang/invoke/MethodHandle" ∧ yX11_widest.cls ≠ "java/lang/invoke/VarHandle" ∧ (parseMethodDescriptor yX11_widest.desc).map (fun d => d.parameters.length) = some 2 := by decide +kernel
/-- X11_widest -/
theorem m_X11_widest (l : Launch) (D : va_G) (y : Nat → ClassId) (c : Nat → Nat) (J : MJ) (S : St) (hI : StOk S) (hO : MOk S J) (a b : Int32) : Met l yX11_widest (ws_ yX11_widest cX11_widest 4 (some .int)) ({ frames := 3, cells := 0, slots := 0, locals := 65 }) (va_Pc [.ref (c 0), .int a, .int b] (WR D y (cellsM y c J))) (QcRead (ansWidest S a b)) 0 0 (fun _ => False) := by
  refine x_start (by decide) (Nat.le_of_ble_eq_true rfl) ?_
  intro p e s m below meth cd ls hx hb hr hts hml hown hlocks hnm hB hl
  have hC := hB.1
  obtain ⟨⟨hK, hN⟩, hP⟩ := hB
  have hown : s.vm.findClass RX11 = some m.cls := hown
  have hl : lv_has ls 4 [(0, .ref (c 0)), (1, .int a), (2, .int b)] := hl
  have i1 := hI.str
  have i0 := hI.yds
  have i2 := p512 i1
  have i3 := Nat.two_pow_pos S.str
  refine lv_aload_n hx hb dX11_widest_0 rfl (lv_at hl 0 rfl) ?_
  refine lv_iload_n hx hb dX11_widest_1 rfl (lv_at hl 1 rfl) ?_
  refine lv_iload_n hx hb dX11_widest_2 rfl (lv_at hl 2 rfl) ?_
  refine va_callR (va_runV (As := [.int a, .int b]) (rest := []) ⟨hx, hb, hml, hown, hts⟩ (m_X11_areTwo l D y c J S hI hO a b) (cwV 2 hts (lw_V q1018 q1020 qs44 q65 q1021) rfl rfl rfl ⟨rfl, hd_X11_areTwo⟩ ⟨Nat.le_of_ble_eq_true rfl, Nat.le_of_ble_eq_true rfl⟩) (preVR hC hP 11 0 rfl rfl) rfl rfl hl.1 rfl (lv_room (Nat.le_of_ble_eq_true rfl)) dX11_widest_3 ⟨Nat.le_of_ble_eq_true rfl, Nat.le_of_ble_eq_true rfl⟩) ?_
  refine z_if_ne (tgt := 11) hx hb dX11_widest_6 (by decide) (fun h1 => ?_) (fun h1 => ?_)
  rotate_left
  · refine lv_iconst (v := (-1)) hx hb dX11_widest_9 (by decide) ?_
    exact n_iret (Qc := fun _ _ _ _ => True) hx hb hr hlocks (by rw [ansWidest, if_neg (bnf h1)]) dX11_widest_10
  have h0 := h1
  obtain ⟨i, j, hi, hj, hij, rfl, rfl⟩ := arY_of hI h1
  refine lv_bipush (v := nI 10) hx hb dX11_widest_11 (by decide) ?_
  refine lv_istore_n (lv' := [(3, .int (nI 10)), (0, .ref (c 0)), (1, .int (nI i)), (2, .int (nI j))]) hx hb dX11_widest_13 rfl hl (by decide) rfl (fun ls hl => ?_)
  refine w_loop (nL := 4) 14 (fun k => [(0, .ref (c 0)), (1, .int (nI i)), (2, .int (nI j)), (3, .int (nI k))]) (fun k => k ≤ 10 ∧ wdst S i j 10 = wdst S i j k) (fun k => k) ?_ 10 (⟨by omega, rfl⟩) ls (lv_sub hl [1, 2, 3, 0] rfl)
  rintro k hi ih ls hl
  have hl : lv_has ls 4 [(0, .ref (c 0)), (1, .int (nI i)), (2, .int (nI j)), (3, .int (nI k))] := hl
  obtain ⟨hk, he⟩ := hi
  have hw := Nat.lt_of_lt_of_le (wideF_lt (S := S) (w := k) S.str) (p512 i1)
  refine lv_iload_n hx hb dX11_widest_14 rfl (lv_at hl 3 rfl) ?_
  refine lv_iconst (v := nI 1) hx hb dX11_widest_15 (by decide) ?_
  refine n_icmp_lt (tgt := 43) hx hb dX11_widest_16 (by decide) (by omega) (by omega) (fun h3 => ?_) (fun h3 => ?_)
  · refine lv_bipush (v := (-9)) hx hb dX11_widest_43 (by decide) ?_
    exact n_iret (Qc := fun _ _ _ _ => True) hx hb hr hlocks (by rw [ansWidest, if_pos h0, idx_nI (by omega), idx_nI (by omega), he, show k = 0 by omega]; rfl) dX11_widest_45
  obtain ⟨q, rfl⟩ : ∃ q, k = q + 1 := ⟨k - 1, by omega⟩
  refine lv_aload_n hx hb dX11_widest_19 rfl (lv_at hl 0 rfl) ?_
  refine lv_iload_n hx hb dX11_widest_20 rfl (lv_at hl 1 rfl) ?_
  refine lv_iload_n hx hb dX11_widest_21 rfl (lv_at hl 2 rfl) ?_
  refine lv_aload_n hx hb dX11_widest_22 rfl (lv_at hl 0 rfl) ?_
  refine lv_iload_n hx hb dX11_widest_23 rfl (lv_at hl 3 rfl) ?_
  refine va_callR (va_runV (As := [.int (nI (q + 1))]) (rest := [.int (nI j), .int (nI i), .ref (c 0)]) ⟨hx, hb, hml, hown, hts⟩ (m_X11_openBy l D y c J S hI hO (q + 1) (by omega)) (cwV 1 hts (lw_V q1026 q1028 qs46 q65 q1029) rfl rfl rfl ⟨rfl, hd_X11_openBy⟩ ⟨Nat.le_of_ble_eq_true rfl, Nat.le_of_ble_eq_true rfl⟩) (preVR hC hP 11 0 rfl rfl) rfl rfl hl.1 rfl (lv_room (Nat.le_of_ble_eq_true rfl)) dX11_widest_24 ⟨Nat.le_of_ble_eq_true rfl, Nat.le_of_ble_eq_true rfl⟩) ?_
  refine va_callR (va_runV (As := [.int (nI i), .int (nI j), .int (nI (wideF S (q + 1) S.str))]) (rest := []) ⟨hx, hb, hml, hown, hts⟩ (m_X11_wayBy l D y c J S hI hO i j (wideF S (q + 1) S.str) (by omega) (by omega) (by omega)) (cwV 3 hts (lw_V q1030 q1032 qs47 q65 q1033) rfl rfl rfl ⟨rfl, hd_X11_wayBy⟩ ⟨Nat.le_of_ble_eq_true rfl, Nat.le_of_ble_eq_true rfl⟩) (preVR hC hP 11 0 rfl rfl) rfl rfl hl.1 rfl (lv_room (Nat.le_of_ble_eq_true rfl)) dX11_widest_27 ⟨Nat.le_of_ble_eq_true rfl, Nat.le_of_ble_eq_true rfl⟩) ?_
  refine lv_bipush (v := (-9)) hx hb dX11_widest_30 (by decide) ?_
  refine lv_icmp_eq (tgt := 37) hx hb dX11_widest_32 (by decide) (fun h4 => ?_) (fun h4 => ?_)
  rotate_left
  · refine lv_iload_n hx hb dX11_widest_35 rfl (lv_at hl 3 rfl) ?_
    exact n_iret (Qc := fun _ _ _ _ => True) hx hb hr hlocks (by rw [ansWidest, if_pos h0, idx_nI (by omega), idx_nI (by omega), he]; show _ = (if _ then _ else _); rw [if_pos (by simp [comF, h4])]) dX11_widest_36
  refine lv_iinc (v := nI (q + 1 - 1)) (lv' := [(3, .int (nI (q + 1 - 1))), (0, .ref (c 0)), (1, .int (nI i)), (2, .int (nI j))]) hx hb dX11_widest_37 hl (k := 3) rfl (nI_dec' (by omega)) (by decide) rfl (fun ls hl => ?_)
  refine lv_goto (tgt := 14) hx hb dX11_widest_40 (by decide) ?_
  exact ih q (⟨by omega, by rw [he]; show (if _ then _ else _) = _; rw [if_neg (by simp [comF, h4])]⟩) (by omega) ls (lv_sub hl [1, 2, 3, 0] rfl)
theorem hd_X11_way : yX11_way.cls ≠ "java/lang/invoke/MethodHandle" ∧ yX11_way.cls ≠ "java/lang/invoke/VarHandle" ∧ (parseMethodDescriptor yX11_way.desc).map (fun d => d.parameters.length) = some 3 := by decide +kernel
/-- X11_way -/
theorem m_X11_way (l : Launch) (D : va_G) (y : Nat → ClassId) (c : Nat → Nat) (J : MJ) (S : St) (hI : StOk S) (hO : MOk S J) (a b w : Int32) : Met l yX11_way (ws_ yX11_way cX11_way 4 (some .int)) ({ frames := 3, cells := 0, slots := 0, locals := 65 }) (va_Pc [.ref (c 0), .int a, .int b, .int w] (WR D y (cellsM y c J))) (QcRead (ansWay S a b w)) 0 0 (fun _ => False) := by
  refine x_start (by decide) (Nat.le_of_ble_eq_true rfl) ?_
  intro p e s m below meth cd ls hx hb hr hts hml hown hlocks hnm hB hl
  have hC := hB.1
  obtain ⟨⟨hK, hN⟩, hP⟩ := hB
  have hown : s.vm.findClass RX11 = some m.cls := hown
  have hl : lv_has ls 4 [(0, .ref (c 0)), (1, .int a), (2, .int b), (3, .int w)] := hl
  have i1 := hI.str
  have i0 := hI.yds
  have i2 := p512 i1
  have i3 := Nat.two_pow_pos S.str
  refine lv_aload_n hx hb dX11_way_0 rfl (lv_at hl 0 rfl) ?_
  refine lv_iload_n hx hb dX11_way_1 rfl (lv_at hl 1 rfl) ?_
  refine lv_iload_n hx hb dX11_way_2 rfl (lv_at hl 2 rfl) ?_
  refine va_callR (va_runV (As := [.int a, .int b]) (rest := []) ⟨hx, hb, hml, hown, hts⟩ (m_X11_areTwo l D y c J S hI hO a b) (cwV 2 hts (lw_V q1018 q1020 qs44 q65 q1021) rfl rfl rfl ⟨rfl, hd_X11_areTwo⟩ ⟨Nat.le_of_ble_eq_true rfl, Nat.le_of_ble_eq_true rfl⟩) (preVR hC hP 11 0 rfl rfl) rfl rfl hl.1 rfl (lv_room (Nat.le_of_ble_eq_true rfl)) dX11_way_3 ⟨Nat.le_of_ble_eq_true rfl, Nat.le_of_ble_eq_true rfl⟩) ?_
  refine z_if_eq (tgt := 19) hx hb dX11_way_6 (by decide) (fun h1 => ?_) (fun h1 => ?_)
  · refine lv_iconst (v := (-1)) hx hb dX11_way_19 (by decide) ?_
    exact n_iret (Qc := fun _ _ _ _ => True) hx hb hr hlocks (by rw [ansWay, if_neg (bnf h1)]) dX11_way_20
  have h0 := h1
  obtain ⟨i, j, hi, hj, hij, rfl, rfl⟩ := arY_of hI h1
  refine lv_iload_n hx hb dX11_way_9 rfl (lv_at hl 3 rfl) ?_
  refine lv_iconst (v := nI 1) hx hb dX11_way_10 (by decide) ?_
  refine lv_bipush (v := nI 10) hx hb dX11_way_11 (by decide) ?_
  refine va_callR (va_runS (As := [.int w, .int (nI 1), .int (nI 10)]) (rest := []) ⟨hx, hb, hml, hown, hts⟩ (m_X11_in l w (nI 1) (nI 10)) (va_cwS 3 hts (lw_S q908 q909 q65 q910) rfl rfl rfl hd_X11_in ⟨Nat.le_of_ble_eq_true rfl, Nat.le_of_ble_eq_true rfl⟩) pre0 rfl rfl hl.1 rfl (lv_room (Nat.le_of_ble_eq_true rfl)) dX11_way_13 ⟨Nat.le_of_ble_eq_true rfl, Nat.le_of_ble_eq_true rfl⟩) ?_
  refine z_if_ne (tgt := 21) hx hb dX11_way_16 (by decide) (fun h2 => ?_) (fun h2 => ?_)
  rotate_left
  · refine lv_iconst (v := (-1)) hx hb dX11_way_19 (by decide) ?_
    exact n_iret (Qc := fun _ _ _ _ => True) hx hb hr hlocks (by rw [ansWay, if_pos h0, if_neg (bnf h2)]) dX11_way_20
  have h3 := h2
  obtain ⟨k, hk1, hk2, rfl⟩ := inI_of (by omega) (by omega) h2
  have hw := Nat.lt_of_lt_of_le (wideF_lt (S := S) (w := k) S.str) (p512 i1)
  refine lv_aload_n hx hb dX11_way_21 rfl (lv_at hl 0 rfl) ?_
  refine lv_iload_n hx hb dX11_way_22 rfl (lv_at hl 1 rfl) ?_
  refine lv_iload_n hx hb dX11_way_23 rfl (lv_at hl 2 rfl) ?_
  refine lv_aload_n hx hb dX11_way_24 rfl (lv_at hl 0 rfl) ?_
  refine lv_iload_n hx hb dX11_way_25 rfl (lv_at hl 3 rfl) ?_
  refine va_callR (va_runV (As := [.int (nI k)]) (rest := [.int (nI j), .int (nI i), .ref (c 0)]) ⟨hx, hb, hml, hown, hts⟩ (m_X11_openBy l D y c J S hI hO k (by omega)) (cwV 1 hts (lw_V q1026 q1028 qs46 q65 q1029) rfl rfl rfl ⟨rfl, hd_X11_openBy⟩ ⟨Nat.le_of_ble_eq_true rfl, Nat.le_of_ble_eq_true rfl⟩) (preVR hC hP 11 0 rfl rfl) rfl rfl hl.1 rfl (lv_room (Nat.le_of_ble_eq_true rfl)) dX11_way_26 ⟨Nat.le_of_ble_eq_true rfl, Nat.le_of_ble_eq_true rfl⟩) ?_
  refine va_callR (va_runV (As := [.int (nI i), .int (nI j), .int (nI (wideF S k S.str))]) (rest := []) ⟨hx, hb, hml, hown, hts⟩ (m_X11_wayBy l D y c J S hI hO i j (wideF S k S.str) (by omega) (by omega) (by omega)) (cwV 3 hts (lw_V q1030 q1032 qs47 q65 q1033) rfl rfl rfl ⟨rfl, hd_X11_wayBy⟩ ⟨Nat.le_of_ble_eq_true rfl, Nat.le_of_ble_eq_true rfl⟩) (preVR hC hP 11 0 rfl rfl) rfl rfl hl.1 rfl (lv_room (Nat.le_of_ble_eq_true rfl)) dX11_way_29 ⟨Nat.le_of_ble_eq_true rfl, Nat.le_of_ble_eq_true rfl⟩) ?_
  exact n_iret (Qc := fun _ _ _ _ => True) hx hb hr hlocks (by rw [ansWay, if_pos h0, if_pos h3, idx_nI (by omega), idx_nI (by omega), idx_nI (by omega)]) dX11_way_32
theorem hd_X11_widthsOf : yX11_widthsOf.cls ≠ "java/lang/invoke/MethodHandle" ∧ yX11_widthsOf.cls ≠ "java/lang/invoke/VarHandle" ∧ (parseMethodDescriptor yX11_widthsOf.desc).map (fun d => d.parameters.length) = some 1 := by decide +kernel
/-- X11_widthsOf -/
theorem m_X11_widthsOf (l : Launch) (D : va_G) (y : Nat → ClassId) (c : Nat → Nat) (J : MJ) (S : St) (hI : StOk S) (hO : MOk S J) (set : Nat) (hs : set < 512) : Met l yX11_widthsOf (ws_ yX11_widthsOf cX11_widthsOf 4 (some .int)) ({ frames := 1, cells := 0, slots := 0, locals := 23 }) (va_Pc [.ref (c 0), .int (nI set)] (WR D y (cellsM y c J))) (QcRead (nI (sumF S set S.str))) 0 0 (fun _ => False) := by
  refine x_start (by decide) (Nat.le_of_ble_eq_true rfl) ?_
  intro p e s m below meth cd ls hx hb hr hts hml hown hlocks hnm hB hl
  have hC := hB.1
  obtain ⟨⟨hK, hN⟩, hP⟩ := hB
  have hown : s.vm.findClass RX11 = some m.cls := hown
  have hl : lv_has ls 4 [(0, .ref (c 0)), (1, .int (nI set))] := hl
  have i1 := hI.str
  refine lv_iconst (v := nI 0) hx hb dX11_widthsOf_0 (by decide) ?_
  refine lv_istore_n (lv' := [(2, .int (nI 0)), (0, .ref (c 0)), (1, .int (nI set))]) hx hb dX11_widthsOf_1 rfl hl (by decide) rfl (fun ls hl => ?_)
  refine lv_iconst (v := nI 0) hx hb dX11_widthsOf_2 (by decide) ?_
  refine lv_istore_n (lv' := [(3, .int (nI 0)), (2, .int (nI 0)), (0, .ref (c 0)), (1, .int (nI set))]) hx hb dX11_widthsOf_3 rfl hl (by decide) rfl (fun ls hl => ?_)
  refine w_loop (nL := 4) 4 (fun i => [(0, .ref (c 0)), (1, .int (nI set)), (2, .int (nI (sumF S set i))), (3, .int (nI i))]) (fun i => i ≤ S.str) (fun i => S.str - i) ?_ 0 (Nat.zero_le _) ls (lv_sub hl [2, 3, 1, 0] rfl)
  rintro i hi ih ls hl
  have hl : lv_has ls 4 [(0, .ref (c 0)), (1, .int (nI set)), (2, .int (nI (sumF S set i))), (3, .int (nI i))] := hl
  refine lv_iload_n hx hb dX11_widthsOf_4 rfl (lv_at hl 3 rfl) ?_
  refine lv_aload_n hx hb dX11_widthsOf_5 rfl (lv_at hl 0 rfl) ?_
  refine va_get (D := D) (ci := 11) (v := .ref (c 3)) (C := RX11) (T := TX11) (N := 26) hx hb hts in_X11 hown hK hP 0 rfl rfl 3 (by decide) (hts _ q828) (fun _ h9 => h9) rfl dX11_widthsOf_6 ?_
  refine lv_iconst (v := nI 0) hx hb dX11_widthsOf_9 (by decide) ?_
  refine n_iald (v := nI S.str) hx hb hK hP 3 0 rfl rfl (j := 0) (by omega) (by decide) (hO.str) dX11_widthsOf_10 ?_
  refine n_icmp_ge (tgt := 40) hx hb dX11_widthsOf_11 (by decide) (by omega) (by omega) (fun h1 => ?_) (fun h1 => ?_)
  · refine lv_iload_n hx hb dX11_widthsOf_40 rfl (lv_at hl 2 rfl) ?_
    exact n_iret (Qc := fun _ _ _ _ => True) hx hb hr hlocks (by rw [show i = S.str by omega]) dX11_widthsOf_41
  refine n_cut 32 [.int (nI (if set.testBit i = true then wid S.now i else 0)), .int (nI (sumF S set i))] (fun K => ?_) ?_
  · refine lv_iload_n hx hb dX11_widthsOf_14 rfl (lv_at hl 2 rfl) ?_
    refine lv_iload_n hx hb dX11_widthsOf_15 rfl (lv_at hl 1 rfl) ?_
    refine lv_iload_n hx hb dX11_widthsOf_16 rfl (lv_at hl 3 rfl) ?_
    refine va_callR (va_runS (As := [.int (nI set), .int (nI i)]) (rest := [.int (nI (sumF S set i))]) ⟨hx, hb, hml, hown, hts⟩ (m_X11_has l set i (by omega) (by omega)) (va_cwS 2 hts (lw_S q1034 q1035 q65 q1036) rfl rfl rfl hd_X11_has ⟨Nat.le_of_ble_eq_true rfl, Nat.le_of_ble_eq_true rfl⟩) pre0 rfl rfl hl.1 rfl (lv_room (Nat.le_of_ble_eq_true rfl)) dX11_widthsOf_17 ⟨Nat.le_of_ble_eq_true rfl, Nat.le_of_ble_eq_true rfl⟩) ?_
    refine z_if_eq (tgt := 31) hx hb dX11_widthsOf_20 (by decide) (fun h3 => ?_) (fun h3 => ?_)
    · refine lv_iconst (v := nI 0) hx hb dX11_widthsOf_31 (by decide) ?_
      exact n_top (by rw [if_neg (bnf h3)]) K
    refine lv_aload_n hx hb dX11_widthsOf_23 rfl (lv_at hl 0 rfl) ?_
    refine lv_iload_n hx hb dX11_widthsOf_24 rfl (lv_at hl 3 rfl) ?_
    refine va_callR (va_runV (As := [.int (nI i)]) (rest := [.int (nI (sumF S set i))]) ⟨hx, hb, hml, hown, hts⟩ (m_X11_widthOf l D y c J S hI hO i (by omega)) (cwV 1 hts (lw_V q955 q957 qs37 q65 q958) rfl rfl rfl ⟨rfl, hd_X11_widthOf⟩ ⟨Nat.le_of_ble_eq_true rfl, Nat.le_of_ble_eq_true rfl⟩) (preVR hC hP 11 0 rfl rfl) rfl rfl hl.1 rfl (lv_room (Nat.le_of_ble_eq_true rfl)) dX11_widthsOf_25 ⟨Nat.le_of_ble_eq_true rfl, Nat.le_of_ble_eq_true rfl⟩) ?_
    refine lv_goto (tgt := 32) hx hb dX11_widthsOf_28 (by decide) ?_
    exact n_top (by rw [if_pos h3]) K
  refine n_add hx hb dX11_widthsOf_32 ?_
  refine lv_istore_n (lv' := [(2, .int (nI (sumF S set i + (if set.testBit i = true then wid S.now i else 0)))), (0, .ref (c 0)), (1, .int (nI set)), (3, .int (nI i))]) hx hb dX11_widthsOf_33 rfl hl (by decide) rfl (fun ls hl => ?_)
  refine lv_iinc (v := nI (i + 1)) (lv' := [(3, .int (nI (i + 1))), (2, .int (nI (sumF S set i + (if set.testBit i = true then wid S.now i else 0)))), (0, .ref (c 0)), (1, .int (nI set))]) hx hb dX11_widthsOf_34 hl (k := 3) rfl (nI_inc _) (by decide) rfl (fun ls hl => ?_)
  refine lv_goto (tgt := 4) hx hb dX11_widthsOf_37 (by decide) ?_
  exact ih (i + 1) (by omega) (by omega) ls (lv_sub hl [2, 3, 1, 0] rfl)
theorem hd_X11_need : yX11_need.cls ≠ "java/lang/invoke/MethodHandle" ∧ yX11_need.cls ≠ "java/lang/invoke/VarHandle" ∧ (parseMethodDescriptor yX11_need.desc).map (fun d => d.parameters.length) = some 3 := by decide +kernel
/-- X11_need -/
theorem m_X11_need (l : Launch) (D : va_G) (y : Nat → ClassId) (c : Nat → Nat) (J : MJ) (S : St) (hI : StOk S) (hO : MOk S J) (a b w : Int32) : Met l yX11_need (ws_ yX11_need cX11_need 8 (some .int)) ({ frames := 3, cells := 0, slots := 0, locals := 65 }) (va_Pc [.ref (c 0), .int a, .int b, .int w] (WR D y (cellsM y c J))) (QcRead (ansNeed S a b w)) 0 0 (fun _ => False) := by
  refine x_start (by decide) (Nat.le_of_ble_eq_true rfl) ?_
  intro p e s m below meth cd ls hx hb hr hts hml hown hlocks hnm hB hl
  have hC := hB.1
  obtain ⟨⟨hK, hN⟩, hP⟩ := hB
  have hown : s.vm.findClass RX11 = some m.cls := hown
  have hl : lv_has ls 8 [(0, .ref (c 0)), (1, .int a), (2, .int b), (3, .int w)] := hl
  have i1 := hI.str
  have i0 := hI.yds
  have i2 := p512 i1
  have i3 := Nat.two_pow_pos S.str
  refine lv_aload_n hx hb dX11_need_0 rfl (lv_at hl 0 rfl) ?_
  refine lv_iload_n hx hb dX11_need_1 rfl (lv_at hl 1 rfl) ?_
  refine lv_iload_n hx hb dX11_need_2 rfl (lv_at hl 2 rfl) ?_
  refine va_callR (va_runV (As := [.int a, .int b]) (rest := []) ⟨hx, hb, hml, hown, hts⟩ (m_X11_areTwo l D y c J S hI hO a b) (cwV 2 hts (lw_V q1018 q1020 qs44 q65 q1021) rfl rfl rfl ⟨rfl, hd_X11_areTwo⟩ ⟨Nat.le_of_ble_eq_true rfl, Nat.le_of_ble_eq_true rfl⟩) (preVR hC hP 11 0 rfl rfl) rfl rfl hl.1 rfl (lv_room (Nat.le_of_ble_eq_true rfl)) dX11_need_3 ⟨Nat.le_of_ble_eq_true rfl, Nat.le_of_ble_eq_true rfl⟩) ?_
  refine z_if_eq (tgt := 19) hx hb dX11_need_6 (by decide) (fun h1 => ?_) (fun h1 => ?_)
  · refine lv_iconst (v := (-1)) hx hb dX11_need_19 (by decide) ?_
    exact n_iret (Qc := fun _ _ _ _ => True) hx hb hr hlocks (by rw [ansNeed, if_neg (bnf h1)]) dX11_need_20
  have h0 := h1
  obtain ⟨i, j, hi, hj, hij, rfl, rfl⟩ := arY_of hI h1
  refine lv_iload_n hx hb dX11_need_9 rfl (lv_at hl 3 rfl) ?_
  refine lv_iconst (v := nI 1) hx hb dX11_need_10 (by decide) ?_
  refine lv_bipush (v := nI 10) hx hb dX11_need_11 (by decide) ?_
  refine va_callR (va_runS (As := [.int w, .int (nI 1), .int (nI 10)]) (rest := []) ⟨hx, hb, hml, hown, hts⟩ (m_X11_in l w (nI 1) (nI 10)) (va_cwS 3 hts (lw_S q908 q909 q65 q910) rfl rfl rfl hd_X11_in ⟨Nat.le_of_ble_eq_true rfl, Nat.le_of_ble_eq_true rfl⟩) pre0 rfl rfl hl.1 rfl (lv_room (Nat.le_of_ble_eq_true rfl)) dX11_need_13 ⟨Nat.le_of_ble_eq_true rfl, Nat.le_of_ble_eq_true rfl⟩) ?_
  refine z_if_ne (tgt := 21) hx hb dX11_need_16 (by decide) (fun h2 => ?_) (fun h2 => ?_)
  rotate_left
  · refine lv_iconst (v := (-1)) hx hb dX11_need_19 (by decide) ?_
    exact n_iret (Qc := fun _ _ _ _ => True) hx hb hr hlocks (by rw [ansNeed, if_pos h0, if_neg (bnf h2)]) dX11_need_20
  have h3 := h2
  obtain ⟨x, hk1, hk2, rfl⟩ := inI_of (by omega) (by omega) h2
  have hw := Nat.lt_of_lt_of_le (wideF_lt (S := S) (w := x) S.str) i2
  refine lv_aload_n hx hb dX11_need_21 rfl (lv_at hl 0 rfl) ?_
  refine lv_iload_n hx hb dX11_need_22 rfl (lv_at hl 3 rfl) ?_
  refine va_callR (va_runV (As := [.int (nI x)]) (rest := []) ⟨hx, hb, hml, hown, hts⟩ (m_X11_openBy l D y c J S hI hO x (by omega)) (cwV 1 hts (lw_V q1026 q1028 qs46 q65 q1029) rfl rfl rfl ⟨rfl, hd_X11_openBy⟩ ⟨Nat.le_of_ble_eq_true rfl, Nat.le_of_ble_eq_true rfl⟩) (preVR hC hP 11 0 rfl rfl) rfl rfl hl.1 rfl (lv_room (Nat.le_of_ble_eq_true rfl)) dX11_need_23 ⟨Nat.le_of_ble_eq_true rfl, Nat.le_of_ble_eq_true rfl⟩) ?_
  refine lv_istore (lv' := [(4, .int (nI (wideF S x S.str))), (0, .ref (c 0)), (1, .int (nI i)), (2, .int (nI j)), (3, .int (nI x))]) hx hb dX11_need_26 hl (by decide) rfl (fun ls hl => ?_)
  refine lv_aload_n hx hb dX11_need_28 rfl (lv_at hl 1 rfl) ?_
  refine lv_iconst (v := nI 0) hx hb dX11_need_29 (by decide) ?_
  refine va_callR (va_runV (As := [.int (nI 0)]) (rest := []) ⟨hx, hb, hml, hown, hts⟩ (m_X11_openBy l D y c J S hI hO 0 (by omega)) (cwV 1 hts (lw_V q1026 q1028 qs46 q65 q1029) rfl rfl rfl ⟨rfl, hd_X11_openBy⟩ ⟨Nat.le_of_ble_eq_true rfl, Nat.le_of_ble_eq_true rfl⟩) (preVR hC hP 11 0 rfl rfl) rfl rfl hl.1 rfl (lv_room (Nat.le_of_ble_eq_true rfl)) dX11_need_30 ⟨Nat.le_of_ble_eq_true rfl, Nat.le_of_ble_eq_true rfl⟩) ?_
  refine n_top (y := nI (2 ^ S.str - 1)) (congrArg nI wide0) ?_
  refine lv_istore (lv' := [(5, .int (nI (2 ^ S.str - 1))), (4, .int (nI (wideF S x S.str))), (0, .ref (c 0)), (1, .int (nI i)), (2, .int (nI j)), (3, .int (nI x))]) hx hb dX11_need_33 hl (by decide) rfl (fun ls hl => ?_)
  refine lv_bipush (v := (-9)) hx hb dX11_need_35 (by decide) ?_
  refine lv_istore (lv' := [(6, .int (-9)), (5, .int (nI (2 ^ S.str - 1))), (4, .int (nI (wideF S x S.str))), (0, .ref (c 0)), (1, .int (nI i)), (2, .int (nI j)), (3, .int (nI x))]) hx hb dX11_need_37 hl (by decide) rfl (fun ls hl => ?_)
  refine lv_iconst (v := nI 0) hx hb dX11_need_39 (by decide) ?_
  refine lv_istore (lv' := [(7, .int (nI 0)), (6, .int (-9)), (5, .int (nI (2 ^ S.str - 1))), (4, .int (nI (wideF S x S.str))), (0, .ref (c 0)), (1, .int (nI i)), (2, .int (nI j)), (3, .int (nI x))]) hx hb dX11_need_40 hl (by decide) rfl (fun ls hl => ?_)
  refine w_loop (nL := 8) 42 (fun k => [(0, .ref (c 0)), (1, .int (nI i)), (2, .int (nI j)), (4, .int (nI (wideF S x S.str))), (5, .int (nI (2 ^ S.str - 1))), (6, .int (oI (minF (neeQ S i j (wideF S x S.str)) k))), (7, .int (nI k))]) (fun k => k ≤ 2 ^ S.str) (fun k => 2 ^ S.str - k) ?_ 0 (Nat.zero_le _) ls (lv_sub hl [4, 5, 6, 3, 2, 1, 0] rfl)
  rintro k hk ih ls hl
  have hl : lv_has ls 8 [(0, .ref (c 0)), (1, .int (nI i)), (2, .int (nI j)), (4, .int (nI (wideF S x S.str))), (5, .int (nI (2 ^ S.str - 1))), (6, .int (oI (minF (neeQ S i j (wideF S x S.str)) k))), (7, .int (nI k))] := hl
  refine lv_iload hx hb dX11_need_42 (lv_at hl 6 rfl) ?_
  refine lv_iload hx hb dX11_need_44 (lv_at hl 4 rfl) ?_
  refine n_icmp_gt (tgt := 95) hx hb dX11_need_46 (by decide) (by omega) (by omega) (fun h4 => ?_) (fun h4 => ?_)
  · refine lv_iload hx hb dX11_need_95 (lv_at hl 5 rfl) ?_
    exact n_iret (Qc := fun _ _ _ _ => True) hx hb hr hlocks (by rw [ansNeed, if_pos h0, if_pos h3, idx_nI (by omega), idx_nI (by omega), idx_nI (by omega), show k = 2 ^ S.str by omega]) dX11_need_97
  have hm := minF_is (neeQ S i j (wideF S x S.str)) k
  have o1 : wideF S x S.str ||| k < 512 := Nat.or_lt_two_pow (n := 9) (by omega) (by omega)
  refine n_cutL (nL := 8) 89 [(0, .ref (c 0)), (1, .int (nI i)), (2, .int (nI j)), (4, .int (nI (wideF S x S.str))), (5, .int (nI (2 ^ S.str - 1))), (6, .int (oI (minF (neeQ S i j (wideF S x S.str)) (k + 1)))), (7, .int (nI k))] [] (fun K => ?_) (fun ls hl => ?_)
  · rw [minF_s] at K
    generalize minF (neeQ S i j (wideF S x S.str)) k = r at hl hm K
    rcases r with _ | u
    · have hl : lv_has ls 8 [(0, .ref (c 0)), (1, .int (nI i)), (2, .int (nI j)), (4, .int (nI (wideF S x S.str))), (5, .int (nI (2 ^ S.str - 1))), (6, .int (-9)), (7, .int (nI k))] := hl
      have hfw : fewU none k = true := rfl
      refine lv_iload hx hb dX11_need_49 (lv_at hl 5 rfl) ?_
      refine lv_bipush (v := (-9)) hx hb dX11_need_51 (by decide) ?_
      refine lv_icmp_eq (tgt := 69) hx hb dX11_need_53 (by decide) (fun h8 => ?_) (fun h8 => ?_)
      · refine lv_aload_n hx hb dX11_need_69 rfl (lv_at hl 0 rfl) ?_
        refine lv_iload_n hx hb dX11_need_70 rfl (lv_at hl 1 rfl) ?_
        refine lv_iload_n hx hb dX11_need_71 rfl (lv_at hl 2 rfl) ?_
        refine lv_iload hx hb dX11_need_72 (lv_at hl 3 rfl) ?_
        refine lv_iload hx hb dX11_need_74 (lv_at hl 6 rfl) ?_
        refine n_or hx hb dX11_need_76 ?_
        refine va_callR (va_runV (As := [.int (nI i), .int (nI j), .int (nI ((wideF S x S.str) ||| k))]) (rest := []) ⟨hx, hb, hml, hown, hts⟩ (m_X11_wayBy l D y c J S hI hO i j ((wideF S x S.str) ||| k) (by omega) (by omega) (by omega)) (cwV 3 hts (lw_V q1030 q1032 qs47 q65 q1033) rfl rfl rfl ⟨rfl, hd_X11_wayBy⟩ ⟨Nat.le_of_ble_eq_true rfl, Nat.le_of_ble_eq_true rfl⟩) (preVR hC hP 11 0 rfl rfl) rfl rfl hl.1 rfl (lv_room (Nat.le_of_ble_eq_true rfl)) dX11_need_77 ⟨Nat.le_of_ble_eq_true rfl, Nat.le_of_ble_eq_true rfl⟩) ?_
        refine lv_bipush (v := (-9)) hx hb dX11_need_80 (by decide) ?_
        refine lv_icmp_eq (tgt := 89) hx hb dX11_need_82 (by decide) (fun h7 => ?_) (fun h7 => ?_)
        · rw [stU, show neeQ S i j (wideF S x S.str) k = false by simp [neeQ, comF, h7], Bool.and_false, if_neg (by decide)] at K
          exact K ls (lv_sub hl [0, 1, 2, 3, 4, 5, 6] rfl)
        refine lv_iload hx hb dX11_need_85 (lv_at hl 6 rfl) ?_
        refine lv_istore (lv' := [(6, .int (nI k)), (0, .ref (c 0)), (1, .int (nI i)), (2, .int (nI j)), (4, .int (nI (wideF S x S.str))), (5, .int (nI (2 ^ S.str - 1))), (7, .int (nI k))]) hx hb dX11_need_87 hl (by decide) rfl (fun ls hl => ?_)
        rw [stU, show neeQ S i j (wideF S x S.str) k = true by simp [neeQ, comF, h7], Bool.and_true, if_pos hfw] at K
        exact K ls (lv_sub hl [1, 2, 3, 4, 5, 0, 6] rfl)
      exact absurd rfl h8
    have hl : lv_has ls 8 [(0, .ref (c 0)), (1, .int (nI i)), (2, .int (nI j)), (4, .int (nI (wideF S x S.str))), (5, .int (nI (2 ^ S.str - 1))), (6, .int (nI u)), (7, .int (nI k))] := hl
    have hu : u < 512 := by have := hm.lt rfl; omega
    refine lv_iload hx hb dX11_need_49 (lv_at hl 5 rfl) ?_
    refine lv_bipush (v := (-9)) hx hb dX11_need_51 (by decide) ?_
    refine lv_icmp_eq (tgt := 69) hx hb dX11_need_53 (by decide) (fun h8 => ?_) (fun h8 => ?_)
    · exact absurd h8 (nI_ne9 (by omega))
    have b1 := bits_10 k
    have b2 := bits_10 u
    refine lv_iload hx hb dX11_need_56 (lv_at hl 6 rfl) ?_
    refine va_callR (va_runS (As := [.int (nI k)]) (rest := []) ⟨hx, hb, hml, hown, hts⟩ (m_X11_bitsOf l k (by omega)) (va_cwS 1 hts (lw_S q987 q988 q65 q989) rfl rfl rfl hd_X11_bitsOf ⟨Nat.le_of_ble_eq_true rfl, Nat.le_of_ble_eq_true rfl⟩) pre0 rfl rfl hl.1 rfl (lv_room (Nat.le_of_ble_eq_true rfl)) dX11_need_58 ⟨Nat.le_of_ble_eq_true rfl, Nat.le_of_ble_eq_true rfl⟩) ?_
    refine lv_iload hx hb dX11_need_61 (lv_at hl 5 rfl) ?_
    refine va_callR (va_runS (As := [.int (nI u)]) (rest := [.int (nI (bits k))]) ⟨hx, hb, hml, hown, hts⟩ (m_X11_bitsOf l u (by omega)) (va_cwS 1 hts (lw_S q987 q988 q65 q989) rfl rfl rfl hd_X11_bitsOf ⟨Nat.le_of_ble_eq_true rfl, Nat.le_of_ble_eq_true rfl⟩) pre0 rfl rfl hl.1 rfl (lv_room (Nat.le_of_ble_eq_true rfl)) dX11_need_63 ⟨Nat.le_of_ble_eq_true rfl, Nat.le_of_ble_eq_true rfl⟩) ?_
    refine n_icmp_ge (tgt := 89) hx hb dX11_need_66 (by decide) (by omega) (by omega) (fun h9 => ?_) (fun h9 => ?_)
    · rw [stU, show fewU (some u) k = false by simp [fewU]; omega, Bool.false_and, if_neg (by decide)] at K
      exact K ls (lv_sub hl [0, 1, 2, 3, 4, 5, 6] rfl)
    have hfw : fewU (some u) k = true := by simp [fewU]; omega
    refine lv_aload_n hx hb dX11_need_69 rfl (lv_at hl 0 rfl) ?_
    refine lv_iload_n hx hb dX11_need_70 rfl (lv_at hl 1 rfl) ?_
    refine lv_iload_n hx hb dX11_need_71 rfl (lv_at hl 2 rfl) ?_
    refine lv_iload hx hb dX11_need_72 (lv_at hl 3 rfl) ?_
    refine lv_iload hx hb dX11_need_74 (lv_at hl 6 rfl) ?_
    refine n_or hx hb dX11_need_76 ?_
    refine va_callR (va_runV (As := [.int (nI i), .int (nI j), .int (nI ((wideF S x S.str) ||| k))]) (rest := []) ⟨hx, hb, hml, hown, hts⟩ (m_X11_wayBy l D y c J S hI hO i j ((wideF S x S.str) ||| k) (by omega) (by omega) (by omega)) (cwV 3 hts (lw_V q1030 q1032 qs47 q65 q1033) rfl rfl rfl ⟨rfl, hd_X11_wayBy⟩ ⟨Nat.le_of_ble_eq_true rfl, Nat.le_of_ble_eq_true rfl⟩) (preVR hC hP 11 0 rfl rfl) rfl rfl hl.1 rfl (lv_room (Nat.le_of_ble_eq_true rfl)) dX11_need_77 ⟨Nat.le_of_ble_eq_true rfl, Nat.le_of_ble_eq_true rfl⟩) ?_
    refine lv_bipush (v := (-9)) hx hb dX11_need_80 (by decide) ?_
    refine lv_icmp_eq (tgt := 89) hx hb dX11_need_82 (by decide) (fun h7 => ?_) (fun h7 => ?_)
    · rw [stU, show neeQ S i j (wideF S x S.str) k = false by simp [neeQ, comF, h7], Bool.and_false, if_neg (by decide)] at K
      exact K ls (lv_sub hl [0, 1, 2, 3, 4, 5, 6] rfl)
    refine lv_iload hx hb dX11_need_85 (lv_at hl 6 rfl) ?_
    refine lv_istore (lv' := [(6, .int (nI k)), (0, .ref (c 0)), (1, .int (nI i)), (2, .int (nI j)), (4, .int (nI (wideF S x S.str))), (5, .int (nI (2 ^ S.str - 1))), (7, .int (nI k))]) hx hb dX11_need_87 hl (by decide) rfl (fun ls hl => ?_)
    rw [stU, show neeQ S i j (wideF S x S.str) k = true by simp [neeQ, comF, h7], Bool.and_true, if_pos hfw] at K
    exact K ls (lv_sub hl [1, 2, 3, 4, 5, 0, 6] rfl)
  refine lv_iinc (v := nI (k + 1)) (lv' := [(7, .int (nI (k + 1))), (0, .ref (c 0)), (1, .int (nI i)), (2, .int (nI j)), (4, .int (nI (wideF S x S.str))), (5, .int (nI (2 ^ S.str - 1))), (6, .int (oI (minF (neeQ S i j (wideF S x S.str)) (k + 1))))]) hx hb dX11_need_89 hl (k := 6) rfl (nI_inc _) (by decide) rfl (fun ls hl => ?_)
  refine lv_goto (tgt := 42) hx hb dX11_need_92 (by decide) ?_
  exact ih (k + 1) (by omega) (by omega) ls (lv_sub hl [1, 2, 3, 4, 5, 6, 0] rfl)
