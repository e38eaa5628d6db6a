/-! model: methods that only read, 4 -/
set_option maxRecDepth 100000
theorem hd_X11_canHave : yX11_canHave.cls ≠ "java/lang/invoke/MethodHandle" ∧ yX11_canHave.cls ≠ "java/lang/invoke/VarHandle" ∧ (parseMethodDescriptor yX11_canHave.desc).map (fun d => d.parameters.length) = some 2 := by decide +kernel
/-- X11_canHave -/
theorem m_X11_canHave (l : Launch) (D : va_G) (y : Nat → ClassId) (c : Nat → Nat) (J : MJ) (S : St) (hI : StOk S) (hO : MOk S J) (p0 j : Nat) (hp : p0 < S.ppl) (hj : j < S.str) : Met l yX11_canHave (ws_ yX11_canHave cX11_canHave 3 (some .boolean)) ({ frames := 1, cells := 0, slots := 0, locals := 23 }) (va_Pc [.ref (c 0), .int (nI p0), .int (nI j)] (WR D y (cellsM y c J))) (QcRead (zb (decide (S.wnt p0 ≤ wid S.now j)))) 0 0 (fun _ => False) := by
  refine x_start (by decide) (Nat.le_of_ble_eq_true rfl) ?_
  intro p e s m below meth cd ls hx hb hr hts hml hown hlocks hnm hB hl
  have hC := hB.1
  obtain ⟨⟨hK, hN⟩, hP⟩ := hB
  have hown : s.vm.findClass RX11 = some m.cls := hown
  have hl : lv_has ls 3 [(0, .ref (c 0)), (1, .int (nI p0)), (2, .int (nI j))] := hl
  have i1 := hI.str
  have i2 := hI.ppl
  have i3 := hI.wnt p0 hp
  have i4 := wid_le hI.now hj
  refine n_cut 19 [.int (zb (decide (S.wnt p0 ≤ wid S.now j)))] (fun K => ?_) ?_
  · refine lv_aload_n hx hb dX11_canHave_0 rfl (lv_at hl 0 rfl) ?_
    refine lv_iload_n hx hb dX11_canHave_1 rfl (lv_at hl 2 rfl) ?_
    refine va_callR (va_runV (As := [.int (nI j)]) (rest := []) ⟨hx, hb, hml, hown, hts⟩ (m_X11_widthOf l D y c J S hI hO j (by omega)) (cwV 1 hts (lw_V q955 q957 qs37 q65 q958) rfl rfl rfl ⟨rfl, hd_X11_widthOf⟩ ⟨Nat.le_of_ble_eq_true rfl, Nat.le_of_ble_eq_true rfl⟩) (preVR hC hP 11 0 rfl rfl) rfl rfl hl.1 rfl (lv_room (Nat.le_of_ble_eq_true rfl)) dX11_canHave_2 ⟨Nat.le_of_ble_eq_true rfl, Nat.le_of_ble_eq_true rfl⟩) ?_
    refine lv_aload_n hx hb dX11_canHave_5 rfl (lv_at hl 0 rfl) ?_
    refine va_get (D := D) (ci := 11) (v := .ref (c 9)) (C := RX11) (T := TX11) (N := 26) hx hb hts in_X11 hown hK hP 0 rfl rfl 9 (by decide) (hts _ q834) (fun _ h9 => h9) rfl dX11_canHave_6 ?_
    refine lv_iload_n hx hb dX11_canHave_9 rfl (lv_at hl 1 rfl) ?_
    refine n_iald (v := nI (S.wnt p0)) hx hb hK hP 9 0 rfl rfl (j := p0) (by omega) (by decide) (hO.wnt p0 (by omega)) dX11_canHave_10 ?_
    refine n_icmp_lt (tgt := 18) hx hb dX11_canHave_11 (by decide) (by omega) (by omega) (fun h1 => ?_) (fun h1 => ?_)
    · refine lv_iconst (v := nI 0) hx hb dX11_canHave_18 (by decide) ?_
      exact n_top (by rw [decide_eq_false (by omega)]; decide) K
    refine lv_iconst (v := nI 1) hx hb dX11_canHave_14 (by decide) ?_
    refine lv_goto (tgt := 19) hx hb dX11_canHave_15 (by decide) ?_
    exact n_top (by rw [decide_eq_true h1]; decide) K
  exact n_zret (Qc := fun _ _ _ _ => True) hx hb hr hlocks (rfl) dX11_canHave_19
theorem hd_X11_widthBy : yX11_widthBy.cls ≠ "java/lang/invoke/MethodHandle" ∧ yX11_widthBy.cls ≠ "java/lang/invoke/VarHandle" ∧ (parseMethodDescriptor yX11_widthBy.desc).map (fun d => d.parameters.length) = some 2 := by decide +kernel
/-- X11_widthBy -/
theorem m_X11_widthBy (l : Launch) (d t : Nat) (hd : d < 1000) (ht : t ≤ 1) : Met l yX11_widthBy (ws_ yX11_widthBy cX11_widthBy 4 (some .int)) ({ frames := 0, cells := 0, slots := 0, locals := 0 }) (va_Pc [.int (nI d), .int (nI t)] (fun _ => True)) (QcRead (nI (wby t (d / 10) (d % 10)))) 0 0 (fun _ => False) := by
  refine x_start (by decide) (Nat.le_of_ble_eq_true rfl) ?_
  intro p e s m below meth cd ls hx hb hr hts hml hown hlocks hnm hB hl
  have hown : s.vm.findClass RX11 = some m.cls := hown
  have hl : lv_has ls 4 [(0, .int (nI d)), (1, .int (nI t))] := hl
  refine lv_iload_n hx hb dX11_widthBy_0 rfl (lv_at hl 0 rfl) ?_
  refine lv_bipush (v := nI 10) hx hb dX11_widthBy_1 (by decide) ?_
  refine n_div hx hb dX11_widthBy_3 (by omega) (by omega) (by omega) ?_
  refine lv_istore_n (lv' := [(2, .int (nI (d / 10))), (0, .int (nI d)), (1, .int (nI t))]) hx hb dX11_widthBy_4 rfl hl (by decide) rfl (fun ls hl => ?_)
  refine n_cut 18 [.int (nI (if t = 1 then 0 else d % 10))] (fun K => ?_) ?_
  · refine lv_iload_n hx hb dX11_widthBy_5 rfl (lv_at hl 2 rfl) ?_
    refine lv_iconst (v := nI 1) hx hb dX11_widthBy_6 (by decide) ?_
    refine n_icmp_ne (tgt := 14) hx hb dX11_widthBy_7 (by decide) (by omega) (by omega) (fun h1 => ?_) (fun h1 => ?_)
    · refine lv_iload_n hx hb dX11_widthBy_14 rfl (lv_at hl 1 rfl) ?_
      refine lv_bipush (v := nI 10) hx hb dX11_widthBy_15 (by decide) ?_
      refine n_rem hx hb dX11_widthBy_17 (by omega) (by omega) (by omega) ?_
      exact n_top (by rw [if_neg h1]) K
    refine lv_iconst (v := nI 0) hx hb dX11_widthBy_10 (by decide) ?_
    refine lv_goto (tgt := 18) hx hb dX11_widthBy_11 (by decide) ?_
    exact n_top (by rw [if_pos h1]) K
  refine lv_istore_n (lv' := [(3, .int (nI (if t = 1 then 0 else d % 10))), (2, .int (nI (d / 10))), (0, .int (nI d)), (1, .int (nI t))]) hx hb dX11_widthBy_18 rfl hl (by decide) rfl (fun ls hl => ?_)
  have hf : (if t = 1 then 0 else d % 10) ≤ 9 := by split <;> omega
  generalize hF : (if t = 1 then 0 else d % 10) = fg at hl hf
  refine lv_iconst (v := nI 1) hx hb dX11_widthBy_19 (by decide) ?_
  refine n_cut 30 [.int (nI (if fg < d / 10 then d / 10 else fg)), .int (nI 1)] (fun K => ?_) ?_
  · refine lv_iload_n hx hb dX11_widthBy_20 rfl (lv_at hl 1 rfl) ?_
    refine lv_iload_n hx hb dX11_widthBy_21 rfl (lv_at hl 0 rfl) ?_
    refine n_icmp_le (tgt := 29) hx hb dX11_widthBy_22 (by decide) (by omega) (by omega) (fun h2 => ?_) (fun h2 => ?_)
    · refine lv_iload_n hx hb dX11_widthBy_29 rfl (lv_at hl 0 rfl) ?_
      exact n_top (by rw [if_neg (by omega)]) K
    refine lv_iload_n hx hb dX11_widthBy_25 rfl (lv_at hl 1 rfl) ?_
    refine lv_goto (tgt := 30) hx hb dX11_widthBy_26 (by decide) ?_
    exact n_top (by rw [if_pos h2]) K
  refine n_add hx hb dX11_widthBy_30 ?_
  exact n_iret (Qc := fun _ _ _ _ => True) hx hb hr hlocks (by rw [← wby_m ht, hF]) dX11_widthBy_31
theorem hd_X11_isSo : yX11_isSo.cls ≠ "java/lang/invoke/MethodHandle" ∧ yX11_isSo.cls ≠ "java/lang/invoke/VarHandle" ∧ (parseMethodDescriptor yX11_isSo.desc).map (fun d => d.parameters.length) = some 1 := by decide +kernel
/-- X11_isSo -/
theorem m_X11_isSo (l : Launch) (D : va_G) (y : Nat → ClassId) (c : Nat → Nat) (J : MJ) (S : St) (hI : StOk S) (hO : MOk S J) (d : Nat) (hd : d < 1000) : Met l yX11_isSo (ws_ yX11_isSo cX11_isSo 4 (some .boolean)) ({ frames := 1, cells := 0, slots := 0, locals := 23 }) (va_Pc [.ref (c 0), .int (nI d)] (WR D y (cellsM y c J))) (QcRead (zb (asD S d))) 0 0 (fun _ => False) := by
  refine x_start (by decide) (Nat.le_of_ble_eq_true rfl) ?_
  intro p e s m below meth cd ls hx hb hr hts hml hown hlocks hnm hB hl
  have hC := hB.1
  obtain ⟨⟨hK, hN⟩, hP⟩ := hB
  have hown : s.vm.findClass RX11 = some m.cls := hown
  have hl : lv_has ls 4 [(0, .ref (c 0)), (1, .int (nI d))] := hl
  have i1 := hI.facts
  refine lv_iconst (v := nI 1) hx hb dX11_isSo_0 (by decide) ?_
  refine lv_istore_n (lv' := [(2, .int (nI 1)), (0, .ref (c 0)), (1, .int (nI d))]) hx hb dX11_isSo_1 rfl hl (by decide) rfl (fun ls hl => ?_)
  refine lv_iconst (v := nI 0) hx hb dX11_isSo_2 (by decide) ?_
  refine lv_istore_n (lv' := [(3, .int (nI 0)), (2, .int (nI 1)), (0, .ref (c 0)), (1, .int (nI d))]) hx hb dX11_isSo_3 rfl hl (by decide) rfl (fun ls hl => ?_)
  refine w_loop (nL := 4) 4 (fun i => [(0, .ref (c 0)), (1, .int (nI d)), (2, .int (zb (asB S (d / 10) (d % 10) i))), (3, .int (nI i))]) (fun i => i ≤ S.facts) (fun i => S.facts - i) ?_ 0 (Nat.zero_le _) ls (lv_sub hl [2, 3, 1, 0] rfl)
  rintro i hi ih ls hl
  have hl : lv_has ls 4 [(0, .ref (c 0)), (1, .int (nI d)), (2, .int (zb (asB S (d / 10) (d % 10) i))), (3, .int (nI i))] := hl
  refine lv_iload_n hx hb dX11_isSo_4 rfl (lv_at hl 3 rfl) ?_
  refine lv_aload_n hx hb dX11_isSo_5 rfl (lv_at hl 0 rfl) ?_
  refine va_get (D := D) (ci := 11) (v := .int (nI S.facts)) (C := RX11) (T := TX11) (N := 26) hx hb hts in_X11 hown hK hP 0 rfl rfl 24 (by decide) (hts _ q849) (fun _ h9 => h9) (sv hO.facts) dX11_isSo_6 ?_
  refine n_icmp_ge (tgt := 47) hx hb dX11_isSo_9 (by decide) (by omega) (by omega) (fun h1 => ?_) (fun h1 => ?_)
  · refine lv_iload_n hx hb dX11_isSo_47 rfl (lv_at hl 2 rfl) ?_
    exact n_zret (Qc := fun _ _ _ _ => True) hx hb hr hlocks (by rw [show i = S.facts by omega]; rfl) dX11_isSo_48
  have h2 := hI.fw i (by omega)
  have h3 := hI.fn i (by omega)
  have h4 : wby (S.fn i) (d / 10) (d % 10) < 2147483648 := by unfold wby; split <;> omega
  refine n_cut 40 [.int (zb (asB S (d / 10) (d % 10) (i + 1)))] (fun K => ?_) ?_
  · refine lv_iload_n hx hb dX11_isSo_12 rfl (lv_at hl 2 rfl) ?_
    refine z_if_eq (tgt := 39) hx hb dX11_isSo_13 (by decide) (fun h5 => ?_) (fun h5 => ?_)
    · refine lv_iconst (v := nI 0) hx hb dX11_isSo_39 (by decide) ?_
      exact n_top (by show _ = zb (asB S (d / 10) (d % 10) i && _); rw [h5, Bool.false_and]; decide) K
    refine lv_iload_n hx hb dX11_isSo_16 rfl (lv_at hl 1 rfl) ?_
    refine lv_aload_n hx hb dX11_isSo_17 rfl (lv_at hl 0 rfl) ?_
    refine va_get (D := D) (ci := 11) (v := .ref (c 17)) (C := RX11) (T := TX11) (N := 26) hx hb hts in_X11 hown hK hP 0 rfl rfl 23 (by decide) (hts _ q848) (fun _ h9 => h9) rfl dX11_isSo_18 ?_
    refine lv_iload_n hx hb dX11_isSo_21 rfl (lv_at hl 3 rfl) ?_
    refine n_iald (v := nI (S.fn i)) hx hb hK hP 17 0 rfl rfl (j := i) (by omega) (by decide) (hO.fn i (by omega)) dX11_isSo_22 ?_
    refine va_callR (va_runS (As := [.int (nI d), .int (nI (S.fn i))]) (rest := []) ⟨hx, hb, hml, hown, hts⟩ (m_X11_widthBy l d (S.fn i) (by omega) (by omega)) (va_cwS 2 hts (lw_S q1085 q1086 q65 q1087) rfl rfl rfl hd_X11_widthBy ⟨Nat.le_of_ble_eq_true rfl, Nat.le_of_ble_eq_true rfl⟩) pre0 rfl rfl hl.1 rfl (lv_room (Nat.le_of_ble_eq_true rfl)) dX11_isSo_23 ⟨Nat.le_of_ble_eq_true rfl, Nat.le_of_ble_eq_true rfl⟩) ?_
    refine lv_aload_n hx hb dX11_isSo_26 rfl (lv_at hl 0 rfl) ?_
    refine va_get (D := D) (ci := 11) (v := .ref (c 16)) (C := RX11) (T := TX11) (N := 26) hx hb hts in_X11 hown hK hP 0 rfl rfl 22 (by decide) (hts _ q847) (fun _ h9 => h9) rfl dX11_isSo_27 ?_
    refine lv_iload_n hx hb dX11_isSo_30 rfl (lv_at hl 3 rfl) ?_
    refine n_iald (v := nI (S.fw i)) hx hb hK hP 16 0 rfl rfl (j := i) (by omega) (by decide) (hO.fw i (by omega)) dX11_isSo_31 ?_
    refine n_icmp_ne (tgt := 39) hx hb dX11_isSo_32 (by decide) (by omega) (by omega) (fun h6 => ?_) (fun h6 => ?_)
    · refine lv_iconst (v := nI 0) hx hb dX11_isSo_39 (by decide) ?_
      exact n_top (by show _ = zb (asB S (d / 10) (d % 10) i && _); rw [decide_eq_false h6, Bool.and_false]; decide) K
    refine lv_iconst (v := nI 1) hx hb dX11_isSo_35 (by decide) ?_
    refine lv_goto (tgt := 40) hx hb dX11_isSo_36 (by decide) ?_
    exact n_top (by show _ = zb (asB S (d / 10) (d % 10) i && _); rw [h5, decide_eq_true h6]; decide) K
  refine lv_istore_n (lv' := [(2, .int (zb (asB S (d / 10) (d % 10) (i + 1)))), (0, .ref (c 0)), (1, .int (nI d)), (3, .int (nI i))]) hx hb dX11_isSo_40 rfl hl (by decide) rfl (fun ls hl => ?_)
  refine lv_iinc (v := nI (i + 1)) (lv' := [(3, .int (nI (i + 1))), (2, .int (zb (asB S (d / 10) (d % 10) (i + 1)))), (0, .ref (c 0)), (1, .int (nI d))]) hx hb dX11_isSo_41 hl (k := 3) rfl (nI_inc _) (by decide) rfl (fun ls hl => ?_)
  refine lv_goto (tgt := 4) hx hb dX11_isSo_44 (by decide) ?_
  exact ih (i + 1) (by omega) (by omega) ls (lv_sub hl [2, 3, 1, 0] rfl)
theorem hd_X11_deeds : yX11_deeds.cls ≠ "java/lang/invoke/MethodHandle" ∧ yX11_deeds.cls ≠ "java/lang/invoke/VarHandle" ∧ (parseMethodDescriptor yX11_deeds.desc).map (fun d => d.parameters.length) = some 1 := by decide +kernel
/-- X11_deeds -/
theorem m_X11_deeds (l : Launch) (D : va_G) (y : Nat → ClassId) (c : Nat → Nat) (J : MJ) (S : St) (hI : StOk S) (hO : MOk S J) (w : Int32) : Met l yX11_deeds (ws_ yX11_deeds cX11_deeds 5 (some .int)) ({ frames := 2, cells := 0, slots := 0, locals := 46 }) (va_Pc [.ref (c 0), .int w] (WR D y (cellsM y c J))) (QcRead (ansDeeds S w)) 0 0 (fun _ => False) := by
  refine x_start (by decide) (Nat.le_of_ble_eq_true rfl) ?_
  intro p e s m below meth cd ls hx hb hr hts hml hown hlocks hnm hB hl
  have hC := hB.1
  obtain ⟨⟨hK, hN⟩, hP⟩ := hB
  have hown : s.vm.findClass RX11 = some m.cls := hown
  have hl : lv_has ls 5 [(0, .ref (c 0)), (1, .int w)] := hl
  refine lv_iload_n hx hb dX11_deeds_0 rfl (lv_at hl 1 rfl) ?_
  refine lv_iconst (v := nI 0) hx hb dX11_deeds_1 (by decide) ?_
  refine lv_iconst (v := nI 1) hx hb dX11_deeds_2 (by decide) ?_
  refine va_callR (va_runS (As := [.int w, .int (nI 0), .int (nI 1)]) (rest := []) ⟨hx, hb, hml, hown, hts⟩ (m_X11_in l w (nI 0) (nI 1)) (va_cwS 3 hts (lw_S q908 q909 q65 q910) rfl rfl rfl hd_X11_in ⟨Nat.le_of_ble_eq_true rfl, Nat.le_of_ble_eq_true rfl⟩) pre0 rfl rfl hl.1 rfl (lv_room (Nat.le_of_ble_eq_true rfl)) dX11_deeds_3 ⟨Nat.le_of_ble_eq_true rfl, Nat.le_of_ble_eq_true rfl⟩) ?_
  refine z_if_ne (tgt := 11) hx hb dX11_deeds_6 (by decide) (fun h1 => ?_) (fun h1 => ?_)
  rotate_left
  · refine lv_iconst (v := (-1)) hx hb dX11_deeds_9 (by decide) ?_
    exact n_iret (Qc := fun _ _ _ _ => True) hx hb hr hlocks (by rw [ansDeeds, if_neg (bnf h1)]) dX11_deeds_10
  have h0 := h1
  obtain ⟨t, ht1, ht2, rfl⟩ := inI_of (by omega) (by omega) h1
  refine lv_iconst (v := nI 0) hx hb dX11_deeds_11 (by decide) ?_
  refine lv_istore_n (lv' := [(2, .int (nI 0)), (0, .ref (c 0)), (1, .int (nI t))]) hx hb dX11_deeds_12 rfl hl (by decide) rfl (fun ls hl => ?_)
  refine lv_bipush (v := (-9)) hx hb dX11_deeds_13 (by decide) ?_
  refine lv_istore_n (lv' := [(3, .int (-9)), (2, .int (nI 0)), (0, .ref (c 0)), (1, .int (nI t))]) hx hb dX11_deeds_15 rfl hl (by decide) rfl (fun ls hl => ?_)
  refine lv_bipush (v := nI 99) hx hb dX11_deeds_16 (by decide) ?_
  refine lv_istore (lv' := [(4, .int (nI 99)), (3, .int (-9)), (2, .int (nI 0)), (0, .ref (c 0)), (1, .int (nI t))]) hx hb dX11_deeds_18 hl (by decide) rfl (fun ls hl => ?_)
  have hl : lv_has ls 5 [(4, .int (dn 100)), (3, .int (oI none)), (2, .int (nI 0)), (0, .ref (c 0)), (1, .int (nI t))] := by rw [dn_s]; exact hl
  refine w_loop (α := Nat × Nat × Option Nat) (nL := 5) 20 (fun a_ => [(0, .ref (c 0)), (1, .int (nI t)), (2, .int (nI a_.2.1)), (3, .int (oI a_.2.2)), (4, .int (dn a_.1))]) (fun a_ => a_.1 ≤ 100 ∧ a_.2.1 + cntP (asD S) a_.1 = cntP (asD S) 100 ∧ FstIn (asD S) a_.1 100 a_.2.2) (fun a_ => a_.1) ?_ (100, 0, none) (⟨by omega, Nat.zero_add _, show FstIn (asD S) 100 100 none from fun v h1 h2 => by omega⟩) ls (lv_sub hl [3, 4, 2, 1, 0] rfl)
  rintro ⟨q, n, r⟩ hi ih ls hl
  have hi : q ≤ 100 ∧ n + cntP (asD S) q = cntP (asD S) 100 ∧ FstIn (asD S) q 100 r := hi
  have hl : lv_has ls 5 [(0, .ref (c 0)), (1, .int (nI t)), (2, .int (nI n)), (3, .int (oI r)), (4, .int (dn q))] := hl
  obtain ⟨hq, hn, hf⟩ := hi
  have c1 := cntP_le (asD S) 100
  refine lv_iload hx hb dX11_deeds_20 (lv_at hl 4 rfl) ?_
  refine lv_if_lt (tgt := 46) hx hb dX11_deeds_22 (by decide) (fun h2 => ?_) (fun h2 => ?_)
  · have h3 := (dn_neg (by omega)).mp h2
    subst h3
    have hn : n = cntP (asD S) 100 := hn
    refine lv_iload_n hx hb dX11_deeds_46 rfl (lv_at hl 1 rfl) ?_
    refine n_if_ne (tgt := 54) hx hb dX11_deeds_47 (by decide) (by omega) (fun h4 => ?_) (fun h4 => ?_)
    rotate_left
    · refine lv_iload_n hx hb dX11_deeds_50 rfl (lv_at hl 2 rfl) ?_
      refine lv_goto (tgt := 55) hx hb dX11_deeds_51 (by decide) ?_
      exact n_iret (Qc := fun _ _ _ _ => True) hx hb hr hlocks (by rw [ansDeeds, if_pos h0, h4, if_pos rfl, hn]) dX11_deeds_55
    refine lv_iload_n hx hb dX11_deeds_54 rfl (lv_at hl 3 rfl) ?_
    exact n_iret (Qc := fun _ _ _ _ => True) hx hb hr hlocks (by rw [ansDeeds, if_pos h0, if_neg (by rw [nI_eq (by omega) (by omega)]; exact h4), hf.uniq (fstP_is _ _)]) dX11_deeds_55
  obtain ⟨k, rfl⟩ : ∃ k, q = k + 1 := ⟨q - 1, by have h3 := mt (dn_neg (by omega)).mpr h2; omega⟩
  rw [dn_s] at hl
  have hl : lv_has ls 5 [(0, .ref (c 0)), (1, .int (nI t)), (2, .int (nI n)), (3, .int (oI r)), (4, .int (nI k))] := hl
  have hn : n + (cntP (asD S) k + (if asD S k = true then 1 else 0)) = cntP (asD S) 100 := hn
  refine lv_aload_n hx hb dX11_deeds_25 rfl (lv_at hl 0 rfl) ?_
  refine lv_iload hx hb dX11_deeds_26 (lv_at hl 4 rfl) ?_
  refine va_callR (va_runV (As := [.int (nI k)]) (rest := []) ⟨hx, hb, hml, hown, hts⟩ (m_X11_isSo l D y c J S hI hO k (by omega)) (cwV 1 hts (lw_V q1081 q1083 qs51 q65 q1084) rfl rfl rfl ⟨rfl, hd_X11_isSo⟩ ⟨Nat.le_of_ble_eq_true rfl, Nat.le_of_ble_eq_true rfl⟩) (preVR hC hP 11 0 rfl rfl) rfl rfl hl.1 rfl (lv_room (Nat.le_of_ble_eq_true rfl)) dX11_deeds_28 ⟨Nat.le_of_ble_eq_true rfl, Nat.le_of_ble_eq_true rfl⟩) ?_
  refine z_if_eq (tgt := 40) hx hb dX11_deeds_31 (by decide) (fun h5 => ?_) (fun h5 => ?_)
  · refine lv_iinc (v := dn k) (lv' := [(4, .int (dn k)), (0, .ref (c 0)), (1, .int (nI t)), (2, .int (nI n)), (3, .int (oI r))]) hx hb dX11_deeds_40 hl (k := 4) rfl (rfl) (by decide) rfl (fun ls hl => ?_)
    refine lv_goto (tgt := 20) hx hb dX11_deeds_43 (by decide) ?_
    exact ih (k, n, r) (⟨by omega, by rw [if_neg (bnf h5)] at hn; exact hn, hf.miss h5⟩) (by omega) ls (lv_sub hl [1, 2, 3, 4, 0] rfl)
  refine lv_iinc (v := nI (n + 1)) (lv' := [(2, .int (nI (n + 1))), (0, .ref (c 0)), (1, .int (nI t)), (3, .int (oI r)), (4, .int (nI k))]) hx hb dX11_deeds_34 hl (k := 2) rfl (nI_inc _) (by decide) rfl (fun ls hl => ?_)
  refine lv_iload hx hb dX11_deeds_37 (lv_at hl 4 rfl) ?_
  refine lv_istore_n (lv' := [(3, .int (nI k)), (2, .int (nI (n + 1))), (0, .ref (c 0)), (1, .int (nI t)), (4, .int (nI k))]) hx hb dX11_deeds_39 rfl hl (by decide) rfl (fun ls hl => ?_)
  refine lv_iinc (v := dn k) (lv' := [(4, .int (dn k)), (3, .int (nI k)), (2, .int (nI (n + 1))), (0, .ref (c 0)), (1, .int (nI t))]) hx hb dX11_deeds_40 hl (k := 4) rfl (rfl) (by decide) rfl (fun ls hl => ?_)
  refine lv_goto (tgt := 20) hx hb dX11_deeds_43 (by decide) ?_
  exact ih (k, n + 1, some k) (⟨by omega, by rw [if_pos h5] at hn; dsimp only; omega, FstIn.hit (by omega) h5⟩) (by omega) ls (lv_sub hl [3, 4, 2, 1, 0] rfl)
theorem hd_X11_greatest : yX11_greatest.cls ≠ "java/lang/invoke/MethodHandle" ∧ yX11_greatest.cls ≠ "java/lang/invoke/VarHandle" ∧ (parseMethodDescriptor yX11_greatest.desc).map (fun d => d.parameters.length) = some 1 := by decide +kernel
/-- X11_greatest -/
theorem m_X11_greatest (l : Launch) (D : va_G) (y : Nat → ClassId) (c : Nat → Nat) (J : MJ) (S : St) (hI : StOk S) (hO : MOk S J) (t : Nat) (ht : t ≤ 1) : Met l yX11_greatest (ws_ yX11_greatest cX11_greatest 6 (some .int)) ({ frames := 2, cells := 0, slots := 0, locals := 46 }) (va_Pc [.ref (c 0), .int (nI t)] (WR D y (cellsM y c J))) (QcRead (nI (alF S t 10))) 0 0 (fun _ => False) := by
  refine x_start (by decide) (Nat.le_of_ble_eq_true rfl) ?_
  intro p e s m below meth cd ls hx hb hr hts hml hown hlocks hnm hB hl
  have hC := hB.1
  obtain ⟨⟨hK, hN⟩, hP⟩ := hB
  have hown : s.vm.findClass RX11 = some m.cls := hown
  have hl : lv_has ls 6 [(0, .ref (c 0)), (1, .int (nI t))] := hl
  refine lv_iconst (v := nI 0) hx hb dX11_greatest_0 (by decide) ?_
  refine lv_istore_n (lv' := [(2, .int (nI 0)), (0, .ref (c 0)), (1, .int (nI t))]) hx hb dX11_greatest_1 rfl hl (by decide) rfl (fun ls hl => ?_)
  refine lv_iconst (v := nI 1) hx hb dX11_greatest_2 (by decide) ?_
  refine lv_istore_n (lv' := [(3, .int (nI 1)), (2, .int (nI 0)), (0, .ref (c 0)), (1, .int (nI t))]) hx hb dX11_greatest_3 rfl hl (by decide) rfl (fun ls hl => ?_)
  refine w_loop (nL := 6) 4 (fun k => [(0, .ref (c 0)), (1, .int (nI t)), (2, .int (nI (alF S t k))), (3, .int (nI (k + 1)))]) (fun k => k ≤ 10) (fun k => 10 - k) ?_ 0 (Nat.zero_le _) ls (lv_sub hl [2, 3, 1, 0] rfl)
  rintro k hi ih ls hl
  have hl : lv_has ls 6 [(0, .ref (c 0)), (1, .int (nI t)), (2, .int (nI (alF S t k))), (3, .int (nI (k + 1)))] := hl
  have a1 := alF_le S t k
  refine lv_iload_n hx hb dX11_greatest_4 rfl (lv_at hl 3 rfl) ?_
  refine lv_bipush (v := nI 10) hx hb dX11_greatest_5 (by decide) ?_
  refine n_icmp_gt (tgt := 77) hx hb dX11_greatest_7 (by decide) (by omega) (by omega) (fun h1 => ?_) (fun h1 => ?_)
  · refine lv_iload_n hx hb dX11_greatest_77 rfl (lv_at hl 2 rfl) ?_
    exact n_iret (Qc := fun _ _ _ _ => True) hx hb hr hlocks (by rw [show k = 10 by omega]) dX11_greatest_78
  have ihk := ih
  refine lv_iconst (v := nI 0) hx hb dX11_greatest_10 (by decide) ?_
  refine lv_istore (lv' := [(4, .int (nI 0)), (0, .ref (c 0)), (1, .int (nI t)), (2, .int (nI (alF S t k))), (3, .int (nI (k + 1)))]) hx hb dX11_greatest_11 hl (by decide) rfl (fun ls hl => ?_)
  refine lv_iconst (v := nI 0) hx hb dX11_greatest_13 (by decide) ?_
  refine lv_istore (lv' := [(5, .int (nI 0)), (4, .int (nI 0)), (0, .ref (c 0)), (1, .int (nI t)), (2, .int (nI (alF S t k))), (3, .int (nI (k + 1)))]) hx hb dX11_greatest_14 hl (by decide) rfl (fun ls hl => ?_)
  refine w_loop (nL := 6) 16 (fun i => [(0, .ref (c 0)), (1, .int (nI t)), (2, .int (nI (alF S t k))), (3, .int (nI (k + 1))), (4, .int (nI (cntP (alP S t (k + 1)) i))), (5, .int (nI i))]) (fun i => i ≤ 100) (fun i => 100 - i) ?_ 0 (Nat.zero_le _) ls (lv_sub hl [2, 3, 4, 5, 1, 0] rfl)
  rintro i hi2 ih ls hl
  have hl : lv_has ls 6 [(0, .ref (c 0)), (1, .int (nI t)), (2, .int (nI (alF S t k))), (3, .int (nI (k + 1))), (4, .int (nI (cntP (alP S t (k + 1)) i))), (5, .int (nI i))] := hl
  have c1 := cntP_le (alP S t (k + 1)) i
  refine lv_iload hx hb dX11_greatest_16 (lv_at hl 5 rfl) ?_
  refine lv_bipush (v := nI 100) hx hb dX11_greatest_18 (by decide) ?_
  refine n_icmp_ge (tgt := 58) hx hb dX11_greatest_20 (by decide) (by omega) (by omega) (fun h2 => ?_) (fun h2 => ?_)
  · have e9 : i = 100 := by omega
    rw [e9] at hl
    refine n_cut 70 [.int (nI (alF S t (k + 1)))] (fun K => ?_) ?_
    · have c2 := cntP_le (alP S t (k + 1)) 100
      refine lv_iload hx hb dX11_greatest_58 (lv_at hl 4 rfl) ?_
      refine lv_iload_n hx hb dX11_greatest_60 rfl (lv_at hl 2 rfl) ?_
      refine n_icmp_le (tgt := 69) hx hb dX11_greatest_61 (by decide) (by omega) (by omega) (fun h3 => ?_) (fun h3 => ?_)
      · refine lv_iload_n hx hb dX11_greatest_69 rfl (lv_at hl 2 rfl) ?_
        exact n_top (by show _ = nI (max _ _); rw [Nat.max_eq_left h3]) K
      refine lv_iload hx hb dX11_greatest_64 (lv_at hl 4 rfl) ?_
      refine lv_goto (tgt := 70) hx hb dX11_greatest_66 (by decide) ?_
      exact n_top (by show _ = nI (max _ _); rw [Nat.max_eq_right (by omega)]) K
    refine lv_istore_n (lv' := [(2, .int (nI (alF S t (k + 1)))), (0, .ref (c 0)), (1, .int (nI t)), (3, .int (nI (k + 1))), (4, .int (nI (cntP (alP S t (k + 1)) 100))), (5, .int (nI 100))]) hx hb dX11_greatest_70 rfl hl (by decide) rfl (fun ls hl => ?_)
    refine lv_iinc (v := nI (k + 1 + 1)) (lv' := [(3, .int (nI (k + 1 + 1))), (2, .int (nI (alF S t (k + 1)))), (0, .ref (c 0)), (1, .int (nI t)), (4, .int (nI (cntP (alP S t (k + 1)) 100))), (5, .int (nI 100))]) hx hb dX11_greatest_71 hl (k := 3) rfl (nI_inc _) (by decide) rfl (fun ls hl => ?_)
    refine lv_goto (tgt := 4) hx hb dX11_greatest_74 (by decide) ?_
    exact ihk (k + 1) (by omega) (by omega) ls (lv_sub hl [2, 3, 1, 0] rfl)
  have h4 : wby t (i / 10) (i % 10) < 2147483648 := by unfold wby; split <;> omega
  refine n_cut 49 [.int (nI (if (alP S t (k + 1)) i = true then 1 else 0)), .int (nI (cntP (alP S t (k + 1)) i))] (fun K => ?_) ?_
  · refine lv_iload hx hb dX11_greatest_23 (lv_at hl 4 rfl) ?_
    refine lv_aload_n hx hb dX11_greatest_25 rfl (lv_at hl 0 rfl) ?_
    refine lv_iload hx hb dX11_greatest_26 (lv_at hl 5 rfl) ?_
    refine va_callR (va_runV (As := [.int (nI i)]) (rest := [.int (nI (cntP (alP S t (k + 1)) i))]) ⟨hx, hb, hml, hown, hts⟩ (m_X11_isSo l D y c J S hI hO i (by omega)) (cwV 1 hts (lw_V q1081 q1083 qs51 q65 q1084) rfl rfl rfl ⟨rfl, hd_X11_isSo⟩ ⟨Nat.le_of_ble_eq_true rfl, Nat.le_of_ble_eq_true rfl⟩) (preVR hC hP 11 0 rfl rfl) rfl rfl hl.1 rfl (lv_room (Nat.le_of_ble_eq_true rfl)) dX11_greatest_28 ⟨Nat.le_of_ble_eq_true rfl, Nat.le_of_ble_eq_true rfl⟩) ?_
    refine z_if_eq (tgt := 48) hx hb dX11_greatest_31 (by decide) (fun h5 => ?_) (fun h5 => ?_)
    · refine lv_iconst (v := nI 0) hx hb dX11_greatest_48 (by decide) ?_
      exact n_top (by rw [if_neg (bnf (by simp [alP, h5]))]) K
    refine lv_iload hx hb dX11_greatest_34 (lv_at hl 5 rfl) ?_
    refine lv_iload_n hx hb dX11_greatest_36 rfl (lv_at hl 1 rfl) ?_
    refine va_callR (va_runS (As := [.int (nI i), .int (nI t)]) (rest := [.int (nI (cntP (alP S t (k + 1)) i))]) ⟨hx, hb, hml, hown, hts⟩ (m_X11_widthBy l i t (by omega) (by omega)) (va_cwS 2 hts (lw_S q1085 q1086 q65 q1087) rfl rfl rfl hd_X11_widthBy ⟨Nat.le_of_ble_eq_true rfl, Nat.le_of_ble_eq_true rfl⟩) pre0 rfl rfl hl.1 rfl (lv_room (Nat.le_of_ble_eq_true rfl)) dX11_greatest_37 ⟨Nat.le_of_ble_eq_true rfl, Nat.le_of_ble_eq_true rfl⟩) ?_
    refine lv_iload_n hx hb dX11_greatest_40 rfl (lv_at hl 3 rfl) ?_
    refine n_icmp_ne (tgt := 48) hx hb dX11_greatest_41 (by decide) (by omega) (by omega) (fun h6 => ?_) (fun h6 => ?_)
    · refine lv_iconst (v := nI 0) hx hb dX11_greatest_48 (by decide) ?_
      exact n_top (by rw [if_neg (bnf (by simp [alP, h6]))]) K
    refine lv_iconst (v := nI 1) hx hb dX11_greatest_44 (by decide) ?_
    refine lv_goto (tgt := 49) hx hb dX11_greatest_45 (by decide) ?_
    exact n_top (by rw [if_pos (by simp [alP, h5, h6])]) K
  refine n_add hx hb dX11_greatest_49 ?_
  refine lv_istore (lv' := [(4, .int (nI (cntP (alP S t (k + 1)) i + (if (alP S t (k + 1)) i = true then 1 else 0)))), (0, .ref (c 0)), (1, .int (nI t)), (2, .int (nI (alF S t k))), (3, .int (nI (k + 1))), (5, .int (nI i))]) hx hb dX11_greatest_50 hl (by decide) rfl (fun ls hl => ?_)
  refine lv_iinc (v := nI (i + 1)) (lv' := [(5, .int (nI (i + 1))), (4, .int (nI (cntP (alP S t (k + 1)) i + (if (alP S t (k + 1)) i = true then 1 else 0)))), (0, .ref (c 0)), (1, .int (nI t)), (2, .int (nI (alF S t k))), (3, .int (nI (k + 1)))]) hx hb dX11_greatest_52 hl (k := 5) rfl (nI_inc _) (by decide) rfl (fun ls hl => ?_)
  refine lv_goto (tgt := 16) hx hb dX11_greatest_55 (by decide) ?_
  exact ih (i + 1) (by omega) (by omega) ls (lv_sub hl [2, 3, 4, 5, 1, 0] rfl)
theorem hd_X11_when : yX11_when.cls ≠ "java/lang/invoke/MethodHandle" ∧ yX11_when.cls ≠ "java/lang/invoke/VarHandle" ∧ (parseMethodDescriptor yX11_when.desc).map (fun d => d.parameters.length) = some 0 := by decide +kernel
/-- X11_when -/
theorem m_X11_when (l : Launch) (D : va_G) (y : Nat → ClassId) (c : Nat → Nat) (J : MJ) (S : St) (hI : StOk S) (hO : MOk S J)  : Met l yX11_when (ws_ yX11_when cX11_when 2 (some .int)) ({ frames := 3, cells := 0, slots := 0, locals := 71 }) (va_Pc [.ref (c 0)] (WR D y (cellsM y c J))) (QcRead (ansWhen S)) 0 0 (fun _ => False) := by
  refine x_start (by decide) (Nat.le_of_ble_eq_true rfl) ?_
  intro p e s m below meth cd ls hx hb hr hts hml hown hlocks hnm hB hl
  have hC := hB.1
  obtain ⟨⟨hK, hN⟩, hP⟩ := hB
  have hown : s.vm.findClass RX11 = some m.cls := hown
  have hl : lv_has ls 2 [(0, .ref (c 0))] := hl
  have a1 := alF_le S 0 10
  have a2 := alF_le S 1 10
  refine lv_aload_n hx hb dX11_when_0 rfl (lv_at hl 0 rfl) ?_
  refine lv_iconst (v := nI 0) hx hb dX11_when_1 (by decide) ?_
  refine va_callR (va_runV (As := [.int (nI 0)]) (rest := []) ⟨hx, hb, hml, hown, hts⟩ (m_X11_greatest l D y c J S hI hO 0 (by omega)) (cwV 1 hts (lw_V q1092 q1094 qs52 q65 q1095) rfl rfl rfl ⟨rfl, hd_X11_greatest⟩ ⟨Nat.le_of_ble_eq_true rfl, Nat.le_of_ble_eq_true rfl⟩) (preVR hC hP 11 0 rfl rfl) rfl rfl hl.1 rfl (lv_room (Nat.le_of_ble_eq_true rfl)) dX11_when_2 ⟨Nat.le_of_ble_eq_true rfl, Nat.le_of_ble_eq_true rfl⟩) ?_
  refine lv_istore_n (lv' := [(1, .int (nI (alF S 0 10))), (0, .ref (c 0))]) hx hb dX11_when_5 rfl hl (by decide) rfl (fun ls hl => ?_)
  refine lv_iload_n hx hb dX11_when_6 rfl (lv_at hl 0 rfl) ?_
  refine n_if_ne (tgt := 15) hx hb dX11_when_7 (by decide) (by omega) (fun h1 => ?_) (fun h1 => ?_)
  rotate_left
  · refine lv_bipush (v := (-9)) hx hb dX11_when_10 (by decide) ?_
    refine lv_goto (tgt := 29) hx hb dX11_when_12 (by decide) ?_
    exact n_iret (Qc := fun _ _ _ _ => True) hx hb hr hlocks (by rw [ansWhen, if_pos h1]) dX11_when_29
  refine lv_aload_n hx hb dX11_when_15 rfl (lv_at hl 1 rfl) ?_
  refine lv_iconst (v := nI 1) hx hb dX11_when_16 (by decide) ?_
  refine va_callR (va_runV (As := [.int (nI 1)]) (rest := []) ⟨hx, hb, hml, hown, hts⟩ (m_X11_greatest l D y c J S hI hO 1 (by omega)) (cwV 1 hts (lw_V q1092 q1094 qs52 q65 q1095) rfl rfl rfl ⟨rfl, hd_X11_greatest⟩ ⟨Nat.le_of_ble_eq_true rfl, Nat.le_of_ble_eq_true rfl⟩) (preVR hC hP 11 0 rfl rfl) rfl rfl hl.1 rfl (lv_room (Nat.le_of_ble_eq_true rfl)) dX11_when_17 ⟨Nat.le_of_ble_eq_true rfl, Nat.le_of_ble_eq_true rfl⟩) ?_
  refine lv_iload_n hx hb dX11_when_20 rfl (lv_at hl 0 rfl) ?_
  refine n_icmp_ge (tgt := 28) hx hb dX11_when_21 (by decide) (by omega) (by omega) (fun h2 => ?_) (fun h2 => ?_)
  · refine lv_iconst (v := nI 0) hx hb dX11_when_28 (by decide) ?_
    exact n_iret (Qc := fun _ _ _ _ => True) hx hb hr hlocks (by rw [ansWhen, if_neg h1, if_neg (by omega)]) dX11_when_29
  refine lv_iconst (v := nI 1) hx hb dX11_when_24 (by decide) ?_
  refine lv_goto (tgt := 29) hx hb dX11_when_25 (by decide) ?_
  exact n_iret (Qc := fun _ _ _ _ => True) hx hb hr hlocks (by rw [ansWhen, if_neg h1, if_pos h2]) dX11_when_29
theorem hd_X11_bodiesOf : yX11_bodiesOf.cls ≠ "java/lang/invoke/MethodHandle" ∧ yX11_bodiesOf.cls ≠ "java/lang/invoke/VarHandle" ∧ (parseMethodDescriptor yX11_bodiesOf.desc).map (fun d => d.parameters.length) = some 1 := by decide +kernel
/-- X11_bodiesOf -/
theorem m_X11_bodiesOf (l : Launch) (v : Int32) : Met l yX11_bodiesOf (ws_ yX11_bodiesOf cX11_bodiesOf 1 (some .int)) ({ frames := 0, cells := 0, slots := 0, locals := 0 }) (va_Pc [.int v] (fun _ => True)) (QcRead (nI (bodF v))) 0 0 (fun _ => False) := by
  refine x_start (by decide) (Nat.le_of_ble_eq_true rfl) ?_
  intro p e s m below meth cd ls hx hb hr hts hml hown hlocks hnm hB hl
  have hown : s.vm.findClass RX11 = some m.cls := hown
  have hl : lv_has ls 1 [(0, .int v)] := hl
  refine lv_iload_n hx hb dX11_bodiesOf_0 rfl (lv_at hl 0 rfl) ?_
  by_cases w0 : v = nI 0
  · subst w0
    refine lv_tableIn (off := 35) (tgt := 36) hx hb dX11_bodiesOf_1 (by decide) (by decide) rfl (by decide) ?_
    refine lv_iconst (v := nI 1) hx hb dX11_bodiesOf_36 (by decide) ?_
    exact n_iret (Qc := fun _ _ _ _ => True) hx hb hr hlocks (by rfl) dX11_bodiesOf_37
  by_cases w1 : v = nI 1
  · subst w1
    refine lv_tableIn (off := 37) (tgt := 38) hx hb dX11_bodiesOf_1 (by decide) (by decide) rfl (by decide) ?_
    refine lv_iconst (v := nI 3) hx hb dX11_bodiesOf_38 (by decide) ?_
    exact n_iret (Qc := fun _ _ _ _ => True) hx hb hr hlocks (by rfl) dX11_bodiesOf_39
  by_cases w2 : v = nI 2
  · subst w2
    refine lv_tableIn (off := 39) (tgt := 40) hx hb dX11_bodiesOf_1 (by decide) (by decide) rfl (by decide) ?_
    refine lv_iconst (v := nI 5) hx hb dX11_bodiesOf_40 (by decide) ?_
    exact n_iret (Qc := fun _ _ _ _ => True) hx hb hr hlocks (by rfl) dX11_bodiesOf_41
  by_cases w3 : v = nI 3
  · subst w3
    refine lv_tableIn (off := 41) (tgt := 42) hx hb dX11_bodiesOf_1 (by decide) (by decide) rfl (by decide) ?_
    refine lv_bipush (v := nI 11) hx hb dX11_bodiesOf_42 (by decide) ?_
    exact n_iret (Qc := fun _ _ _ _ => True) hx hb hr hlocks (by rfl) dX11_bodiesOf_44
  by_cases w4 : v = nI 4
  · subst w4
    refine lv_tableIn (off := 44) (tgt := 45) hx hb dX11_bodiesOf_1 (by decide) (by decide) rfl (by decide) ?_
    refine lv_bipush (v := nI 21) hx hb dX11_bodiesOf_45 (by decide) ?_
    exact n_iret (Qc := fun _ _ _ _ => True) hx hb hr hlocks (by rfl) dX11_bodiesOf_47
  refine lv_tableOut (tgt := 48) hx hb dX11_bodiesOf_1 (by have q0 := lv_neT w0 (show (nI 0).toInt = 0 from rfl); have q1 := lv_neT w1 (show (nI 1).toInt = 1 from rfl); have q2 := lv_neT w2 (show (nI 2).toInt = 2 from rfl); have q3 := lv_neT w3 (show (nI 3).toInt = 3 from rfl); have q4 := lv_neT w4 (show (nI 4).toInt = 4 from rfl); omega) (by decide) ?_
  refine lv_bipush (v := nI 33) hx hb dX11_bodiesOf_48 (by decide) ?_
  exact n_iret (Qc := fun _ _ _ _ => True) hx hb hr hlocks (by rw [bodF, if_neg w0, if_neg w1, if_neg w2, if_neg w3, if_neg w4]) dX11_bodiesOf_50
theorem hd_X11_count : yX11_count.cls ≠ "java/lang/invoke/MethodHandle" ∧ yX11_count.cls ≠ "java/lang/invoke/VarHandle" ∧ (parseMethodDescriptor yX11_count.desc).map (fun d => d.parameters.length) = some 1 := by decide +kernel
/-- X11_count -/
theorem m_X11_count (l : Launch) (D : va_G) (y : Nat → ClassId) (c : Nat → Nat) (J : MJ) (S : St) (hI : StOk S) (hO : MOk S J) (w : Int32) : Met l yX11_count (ws_ yX11_count cX11_count 2 (some .int)) ({ frames := 0, cells := 0, slots := 0, locals := 0 }) (va_Pc [.ref (c 0), .int w] (WR D y (cellsM y c J))) (QcRead (ansCount S w)) 0 0 (fun _ => False) := by
  refine x_start (by decide) (Nat.le_of_ble_eq_true rfl) ?_
  intro p e s m below meth cd ls hx hb hr hts hml hown hlocks hnm hB hl
  have hC := hB.1
  obtain ⟨⟨hK, hN⟩, hP⟩ := hB
  have hown : s.vm.findClass RX11 = some m.cls := hown
  have hl : lv_has ls 2 [(0, .ref (c 0)), (1, .int w)] := hl
  refine lv_iload_n hx hb dX11_count_0 rfl (lv_at hl 1 rfl) ?_
  by_cases w0 : w = nI 0
  · subst w0
    refine lv_tableIn (off := 39) (tgt := 40) hx hb dX11_count_1 (by decide) (by decide) rfl (by decide) ?_
    refine lv_aload_n hx hb dX11_count_40 rfl (lv_at hl 0 rfl) ?_
    refine va_get (D := D) (ci := 11) (v := .ref (c 2)) (C := RX11) (T := TX11) (N := 26) hx hb hts in_X11 hown hK hP 0 rfl rfl 2 (by decide) (hts _ q827) (fun _ h9 => h9) rfl dX11_count_41 ?_
    refine lv_iconst (v := nI 0) hx hb dX11_count_44 (by decide) ?_
    refine n_iald (v := nI S.yds) hx hb hK hP 2 0 rfl rfl (j := 0) (by omega) (by decide) (hO.yds) dX11_count_45 ?_
    exact n_iret (Qc := fun _ _ _ _ => True) hx hb hr hlocks (by rfl) dX11_count_46
  by_cases w1 : w = nI 1
  · subst w1
    refine lv_tableIn (off := 46) (tgt := 47) hx hb dX11_count_1 (by decide) (by decide) rfl (by decide) ?_
    refine lv_aload_n hx hb dX11_count_47 rfl (lv_at hl 0 rfl) ?_
    refine va_get (D := D) (ci := 11) (v := .ref (c 3)) (C := RX11) (T := TX11) (N := 26) hx hb hts in_X11 hown hK hP 0 rfl rfl 3 (by decide) (hts _ q828) (fun _ h9 => h9) rfl dX11_count_48 ?_
    refine lv_iconst (v := nI 0) hx hb dX11_count_51 (by decide) ?_
    refine n_iald (v := nI S.str) hx hb hK hP 3 0 rfl rfl (j := 0) (by omega) (by decide) (hO.str) dX11_count_52 ?_
    exact n_iret (Qc := fun _ _ _ _ => True) hx hb hr hlocks (by rfl) dX11_count_53
  by_cases w2 : w = nI 2
  · subst w2
    refine lv_tableIn (off := 53) (tgt := 54) hx hb dX11_count_1 (by decide) (by decide) rfl (by decide) ?_
    refine lv_aload_n hx hb dX11_count_54 rfl (lv_at hl 0 rfl) ?_
    refine va_get (D := D) (ci := 11) (v := .ref (c 7)) (C := RX11) (T := TX11) (N := 26) hx hb hts in_X11 hown hK hP 0 rfl rfl 7 (by decide) (hts _ q832) (fun _ h9 => h9) rfl dX11_count_55 ?_
    refine lv_iconst (v := nI 0) hx hb dX11_count_58 (by decide) ?_
    refine n_iald (v := nI S.ppl) hx hb hK hP 7 0 rfl rfl (j := 0) (by omega) (by decide) (hO.ppl) dX11_count_59 ?_
    exact n_iret (Qc := fun _ _ _ _ => True) hx hb hr hlocks (by rfl) dX11_count_60
  by_cases w3 : w = nI 3
  · subst w3
    refine lv_tableIn (off := 60) (tgt := 61) hx hb dX11_count_1 (by decide) (by decide) rfl (by decide) ?_
    refine lv_aload_n hx hb dX11_count_61 rfl (lv_at hl 0 rfl) ?_
    refine va_get (D := D) (ci := 11) (v := .int (nI S.facts)) (C := RX11) (T := TX11) (N := 26) hx hb hts in_X11 hown hK hP 0 rfl rfl 24 (by decide) (hts _ q849) (fun _ h9 => h9) (sv hO.facts) dX11_count_62 ?_
    exact n_iret (Qc := fun _ _ _ _ => True) hx hb hr hlocks (by rfl) dX11_count_65
  by_cases w4 : w = nI 4
  · subst w4
    refine lv_tableIn (off := 65) (tgt := 66) hx hb dX11_count_1 (by decide) (by decide) rfl (by decide) ?_
    refine lv_aload_n hx hb dX11_count_66 rfl (lv_at hl 0 rfl) ?_
    refine va_get (D := D) (ci := 11) (v := .ref (c 11)) (C := RX11) (T := TX11) (N := 26) hx hb hts in_X11 hown hK hP 0 rfl rfl 17 (by decide) (hts _ q842) (fun _ h9 => h9) rfl dX11_count_67 ?_
    refine lv_iconst (v := nI 0) hx hb dX11_count_70 (by decide) ?_
    refine n_iald (v := nI S.und) hx hb hK hP 11 0 rfl rfl (j := 0) (by omega) (by decide) (hO.und) dX11_count_71 ?_
    exact n_iret (Qc := fun _ _ _ _ => True) hx hb hr hlocks (by rfl) dX11_count_72
  by_cases w5 : w = nI 5
  · subst w5
    refine lv_tableIn (off := 72) (tgt := 73) hx hb dX11_count_1 (by decide) (by decide) rfl (by decide) ?_
    refine lv_aload_n hx hb dX11_count_73 rfl (lv_at hl 0 rfl) ?_
    refine va_get (D := D) (ci := 11) (v := .int (nI S.typed)) (C := RX11) (T := TX11) (N := 26) hx hb hts in_X11 hown hK hP 0 rfl rfl 1 (by decide) (hts _ q826) (fun _ h9 => h9) (sv hO.typed) dX11_count_74 ?_
    exact n_iret (Qc := fun _ _ _ _ => True) hx hb hr hlocks (by rfl) dX11_count_77
  refine lv_tableOut (tgt := 78) hx hb dX11_count_1 (by have q0 := lv_neT w0 (show (nI 0).toInt = 0 from rfl); have q1 := lv_neT w1 (show (nI 1).toInt = 1 from rfl); have q2 := lv_neT w2 (show (nI 2).toInt = 2 from rfl); have q3 := lv_neT w3 (show (nI 3).toInt = 3 from rfl); have q4 := lv_neT w4 (show (nI 4).toInt = 4 from rfl); have q5 := lv_neT w5 (show (nI 5).toInt = 5 from rfl); omega) (by decide) ?_
  refine lv_iconst (v := (-1)) hx hb dX11_count_78 (by decide) ?_
  exact n_iret (Qc := fun _ _ _ _ => True) hx hb hr hlocks (by rw [ansCount, if_neg w0, if_neg w1, if_neg w2, if_neg w3, if_neg w4, if_neg w5]) dX11_count_79
