/-! model: methods that only read, 1 -/
set_option maxRecDepth 100000
theorem hd_X11_in : yX11_in.cls ≠ "java/lang/invoke/MethodHandle" ∧ yX11_in.cls ≠ "java/lang/invoke/VarHandle" ∧ (parseMethodDescriptor yX11_in.desc).map (fun d => d.parameters.length) = some 3 := by decide +kernel
/-- X11_in -/
theorem m_X11_in (l : Launch) (v a b : Int32) : Met l yX11_in (ws_ yX11_in cX11_in 3 (some .boolean)) ({ frames := 0, cells := 0, slots := 0, locals := 0 }) (va_Pc [.int v, .int a, .int b] (fun _ => True)) (QcRead (zb (inI v a b))) 0 0 (fun _ => False) := by
  refine x_start (by decide) (Nat.le_of_ble_eq_true rfl) ?_
  intro p e s m below meth cd ls hx hb hr hts hml hown hlocks hnm hB hl
  have hown : s.vm.findClass RX11 = some m.cls := hown
  have hl : lv_has ls 3 [(0, .int v), (1, .int a), (2, .int b)] := hl
  refine n_cut 15 [.int (zb (inI v a b))] (fun K => ?_) ?_
  · refine lv_iload_n hx hb dX11_in_0 rfl (lv_at hl 0 rfl) ?_
    refine lv_iload_n hx hb dX11_in_1 rfl (lv_at hl 1 rfl) ?_
    refine lv_icmp_lt (tgt := 14) hx hb dX11_in_2 (by decide) (fun h1 => ?_) (fun h1 => ?_)
    · refine lv_iconst (v := nI 0) hx hb dX11_in_14 (by decide) ?_
      exact n_top (by simp [inI, zb, nI_0, Int32.not_le.mpr h1]) K
    refine lv_iload_n hx hb dX11_in_5 rfl (lv_at hl 0 rfl) ?_
    refine lv_iload_n hx hb dX11_in_6 rfl (lv_at hl 2 rfl) ?_
    refine lv_icmp_gt (tgt := 14) hx hb dX11_in_7 (by decide) (fun h2 => ?_) (fun h2 => ?_)
    · refine lv_iconst (v := nI 0) hx hb dX11_in_14 (by decide) ?_
      exact n_top (by simp [inI, zb, nI_0, Int32.not_le.mpr h2]) K
    refine lv_iconst (v := nI 1) hx hb dX11_in_10 (by decide) ?_
    refine lv_goto (tgt := 15) hx hb dX11_in_11 (by decide) ?_
    exact n_top (by rw [Int32.not_lt] at h1 h2; simp [inI, zb, h1, h2]; decide) K
  exact n_zret (Qc := fun _ _ _ _ => True) hx hb hr hlocks (rfl) dX11_in_15
theorem hd_X11_has : yX11_has.cls ≠ "java/lang/invoke/MethodHandle" ∧ yX11_has.cls ≠ "java/lang/invoke/VarHandle" ∧ (parseMethodDescriptor yX11_has.desc).map (fun d => d.parameters.length) = some 2 := by decide +kernel
/-- X11_has -/
theorem m_X11_has (l : Launch) (a j : Nat) (ha : a < 2147483648) (hj : j < 32) : Met l yX11_has (ws_ yX11_has cX11_has 2 (some .boolean)) ({ frames := 0, cells := 0, slots := 0, locals := 0 }) (va_Pc [.int (nI a), .int (nI j)] (fun _ => True)) (QcRead (zb (a.testBit j))) 0 0 (fun _ => False) := by
  refine x_start (by decide) (Nat.le_of_ble_eq_true rfl) ?_
  intro p e s m below meth cd ls hx hb hr hts hml hown hlocks hnm hB hl
  have hown : s.vm.findClass RX11 = some m.cls := hown
  have hl : lv_has ls 2 [(0, .int (nI a)), (1, .int (nI j))] := hl
  have h9 : a / 2 ^ j &&& 1 < 2147483648 := Nat.lt_of_le_of_lt Nat.and_le_right (by omega)
  refine n_cut 14 [.int (zb (a.testBit j))] (fun K => ?_) ?_
  · refine lv_iload_n hx hb dX11_has_0 rfl (lv_at hl 0 rfl) ?_
    refine lv_iload_n hx hb dX11_has_1 rfl (lv_at hl 1 rfl) ?_
    refine n_shr hx hb dX11_has_2 (by omega) (by omega) ?_
    refine lv_iconst (v := nI 1) hx hb dX11_has_3 (by decide) ?_
    refine n_and hx hb dX11_has_4 ?_
    refine lv_iconst (v := nI 1) hx hb dX11_has_5 (by decide) ?_
    refine n_icmp_ne (tgt := 13) hx hb dX11_has_6 (by decide) (by omega) (by omega) (fun h1 => ?_) (fun h1 => ?_)
    · refine lv_iconst (v := nI 0) hx hb dX11_has_13 (by decide) ?_
      exact n_top (by rw [show a.testBit j = false from Bool.eq_false_iff.mpr (fun q => h1 (tb_iff.mpr q))]; decide) K
    refine lv_iconst (v := nI 1) hx hb dX11_has_9 (by decide) ?_
    refine lv_goto (tgt := 14) hx hb dX11_has_10 (by decide) ?_
    exact n_top (by rw [tb_iff.mp h1]; decide) K
  exact n_zret (Qc := fun _ _ _ _ => True) hx hb hr hlocks (rfl) dX11_has_14
theorem hd_X11_bitsOf : yX11_bitsOf.cls ≠ "java/lang/invoke/MethodHandle" ∧ yX11_bitsOf.cls ≠ "java/lang/invoke/VarHandle" ∧ (parseMethodDescriptor yX11_bitsOf.desc).map (fun d => d.parameters.length) = some 1 := by decide +kernel
/-- X11_bitsOf -/
theorem m_X11_bitsOf (l : Launch) (a : Nat) (ha : a < 2147483648) : Met l yX11_bitsOf (ws_ yX11_bitsOf cX11_bitsOf 3 (some .int)) ({ frames := 0, cells := 0, slots := 0, locals := 0 }) (va_Pc [.int (nI a)] (fun _ => True)) (QcRead (nI (bits a))) 0 0 (fun _ => False) := by
  refine x_start (by decide) (Nat.le_of_ble_eq_true rfl) ?_
  intro p e s m below meth cd ls hx hb hr hts hml hown hlocks hnm hB hl
  have hown : s.vm.findClass RX11 = some m.cls := hown
  have hl : lv_has ls 3 [(0, .int (nI a))] := hl
  refine lv_iconst (v := nI 0) hx hb dX11_bitsOf_0 (by decide) ?_
  refine lv_istore_n (lv' := [(1, .int (nI 0)), (0, .int (nI a))]) hx hb dX11_bitsOf_1 rfl hl (by decide) rfl (fun ls hl => ?_)
  refine lv_iconst (v := nI 0) hx hb dX11_bitsOf_2 (by decide) ?_
  refine lv_istore_n (lv' := [(2, .int (nI 0)), (1, .int (nI 0)), (0, .int (nI a))]) hx hb dX11_bitsOf_3 rfl hl (by decide) rfl (fun ls hl => ?_)
  refine w_loop (nL := 3) 4 (fun i => [(0, .int (nI a)), (1, .int (nI (bitsF a i))), (2, .int (nI i))]) (fun i => i ≤ 10) (fun i => 10 - i) ?_ 0 (Nat.zero_le _) ls (lv_sub hl [2, 1, 0] rfl)
  rintro i hi ih ls hl
  have hl : lv_has ls 3 [(0, .int (nI a)), (1, .int (nI (bitsF a i))), (2, .int (nI i))] := hl
  refine lv_iload_n hx hb dX11_bitsOf_4 rfl (lv_at hl 2 rfl) ?_
  refine lv_bipush (v := nI 10) hx hb dX11_bitsOf_5 (by decide) ?_
  refine n_icmp_ge (tgt := 24) hx hb dX11_bitsOf_7 (by decide) (by omega) (by omega) (fun h1 => ?_) (fun h1 => ?_)
  · refine lv_iload_n hx hb dX11_bitsOf_24 rfl (lv_at hl 1 rfl) ?_
    exact n_iret (Qc := fun _ _ _ _ => True) hx hb hr hlocks (by rw [show i = 10 by omega]; rfl) dX11_bitsOf_25
  refine lv_iload_n hx hb dX11_bitsOf_10 rfl (lv_at hl 1 rfl) ?_
  refine lv_iload_n hx hb dX11_bitsOf_11 rfl (lv_at hl 0 rfl) ?_
  refine lv_iload_n hx hb dX11_bitsOf_12 rfl (lv_at hl 2 rfl) ?_
  refine n_shr hx hb dX11_bitsOf_13 (by omega) (by omega) ?_
  refine lv_iconst (v := nI 1) hx hb dX11_bitsOf_14 (by decide) ?_
  refine n_and hx hb dX11_bitsOf_15 ?_
  refine n_add hx hb dX11_bitsOf_16 ?_
  refine n_top (y := nI (bitsF a (i + 1))) (congrArg nI bits_step) ?_
  refine lv_istore_n (lv' := [(1, .int (nI (bitsF a (i + 1)))), (0, .int (nI a)), (2, .int (nI i))]) hx hb dX11_bitsOf_17 rfl hl (by decide) rfl (fun ls hl => ?_)
  refine lv_iinc (v := nI (i + 1)) (lv' := [(2, .int (nI (i + 1))), (1, .int (nI (bitsF a (i + 1)))), (0, .int (nI a))]) hx hb dX11_bitsOf_18 hl (k := 2) rfl (nI_inc _) (by decide) rfl (fun ls hl => ?_)
  refine lv_goto (tgt := 4) hx hb dX11_bitsOf_21 (by decide) ?_
  exact ih (i + 1) (by omega) (by omega) ls (lv_sub hl [2, 1, 0] rfl)
theorem hd_X11_isYard : yX11_isYard.cls ≠ "java/lang/invoke/MethodHandle" ∧ yX11_isYard.cls ≠ "java/lang/invoke/VarHandle" ∧ (parseMethodDescriptor yX11_isYard.desc).map (fun d => d.parameters.length) = some 1 := by decide +kernel
/-- X11_isYard -/
theorem m_X11_isYard (l : Launch) (D : va_G) (y : Nat → ClassId) (c : Nat → Nat) (J : MJ) (S : St) (hI : StOk S) (hO : MOk S J) (v : Int32) : Met l yX11_isYard (ws_ yX11_isYard cX11_isYard 2 (some .boolean)) ({ frames := 1, cells := 0, slots := 0, locals := 22 }) (va_Pc [.ref (c 0), .int v] (WR D y (cellsM y c J))) (QcRead (zb (ixI v S.yds))) 0 0 (fun _ => False) := by
  refine x_start (by decide) (Nat.le_of_ble_eq_true rfl) ?_
  intro p e s m below meth cd ls hx hb hr hts hml hown hlocks hnm hB hl
  have hC := hB.1
  obtain ⟨⟨hK, hN⟩, hP⟩ := hB
  have hown : s.vm.findClass RX11 = some m.cls := hown
  have hl : lv_has ls 2 [(0, .ref (c 0)), (1, .int v)] := hl
  have i1 := hI.yds
  refine lv_iload_n hx hb dX11_isYard_0 rfl (lv_at hl 1 rfl) ?_
  refine lv_iconst (v := nI 0) hx hb dX11_isYard_1 (by decide) ?_
  refine lv_aload_n hx hb dX11_isYard_2 rfl (lv_at hl 0 rfl) ?_
  refine va_get (D := D) (ci := 11) (v := .ref (c 2)) (C := RX11) (T := TX11) (N := 26) hx hb hts in_X11 hown hK hP 0 rfl rfl 2 (by decide) (hts _ q827) (fun _ h9 => h9) rfl dX11_isYard_3 ?_
  refine lv_iconst (v := nI 0) hx hb dX11_isYard_6 (by decide) ?_
  refine n_iald (v := nI S.yds) hx hb hK hP 2 0 rfl rfl (j := 0) (by omega) (by decide) (hO.yds) dX11_isYard_7 ?_
  refine lv_iconst (v := nI 1) hx hb dX11_isYard_8 (by decide) ?_
  refine lv_isub hx hb dX11_isYard_9 ?_
  refine va_callR (va_runS (As := [.int v, .int (nI 0), .int ((nI S.yds) - (nI 1))]) (rest := []) ⟨hx, hb, hml, hown, hts⟩ (m_X11_in l v (nI 0) ((nI S.yds) - (nI 1))) (va_cwS 3 hts (lw_S q908 q909 q65 q910) rfl rfl rfl hd_X11_in ⟨Nat.le_of_ble_eq_true rfl, Nat.le_of_ble_eq_true rfl⟩) pre0 rfl rfl hl.1 rfl (lv_room (Nat.le_of_ble_eq_true rfl)) dX11_isYard_10 ⟨Nat.le_of_ble_eq_true rfl, Nat.le_of_ble_eq_true rfl⟩) ?_
  exact n_zret (Qc := fun _ _ _ _ => True) hx hb hr hlocks (by rw [inI_ix (by omega)]) dX11_isYard_13
theorem hd_X11_isStreet : yX11_isStreet.cls ≠ "java/lang/invoke/MethodHandle" ∧ yX11_isStreet.cls ≠ "java/lang/invoke/VarHandle" ∧ (parseMethodDescriptor yX11_isStreet.desc).map (fun d => d.parameters.length) = some 1 := by decide +kernel
/-- X11_isStreet -/
theorem m_X11_isStreet (l : Launch) (D : va_G) (y : Nat → ClassId) (c : Nat → Nat) (J : MJ) (S : St) (hI : StOk S) (hO : MOk S J) (v : Int32) : Met l yX11_isStreet (ws_ yX11_isStreet cX11_isStreet 2 (some .boolean)) ({ frames := 1, cells := 0, slots := 0, locals := 22 }) (va_Pc [.ref (c 0), .int v] (WR D y (cellsM y c J))) (QcRead (zb (ixI v S.str))) 0 0 (fun _ => False) := by
  refine x_start (by decide) (Nat.le_of_ble_eq_true rfl) ?_
  intro p e s m below meth cd ls hx hb hr hts hml hown hlocks hnm hB hl
  have hC := hB.1
  obtain ⟨⟨hK, hN⟩, hP⟩ := hB
  have hown : s.vm.findClass RX11 = some m.cls := hown
  have hl : lv_has ls 2 [(0, .ref (c 0)), (1, .int v)] := hl
  have i1 := hI.str
  refine lv_iload_n hx hb dX11_isStreet_0 rfl (lv_at hl 1 rfl) ?_
  refine lv_iconst (v := nI 0) hx hb dX11_isStreet_1 (by decide) ?_
  refine lv_aload_n hx hb dX11_isStreet_2 rfl (lv_at hl 0 rfl) ?_
  refine va_get (D := D) (ci := 11) (v := .ref (c 3)) (C := RX11) (T := TX11) (N := 26) hx hb hts in_X11 hown hK hP 0 rfl rfl 3 (by decide) (hts _ q828) (fun _ h9 => h9) rfl dX11_isStreet_3 ?_
  refine lv_iconst (v := nI 0) hx hb dX11_isStreet_6 (by decide) ?_
  refine n_iald (v := nI S.str) hx hb hK hP 3 0 rfl rfl (j := 0) (by omega) (by decide) (hO.str) dX11_isStreet_7 ?_
  refine lv_iconst (v := nI 1) hx hb dX11_isStreet_8 (by decide) ?_
  refine lv_isub hx hb dX11_isStreet_9 ?_
  refine va_callR (va_runS (As := [.int v, .int (nI 0), .int ((nI S.str) - (nI 1))]) (rest := []) ⟨hx, hb, hml, hown, hts⟩ (m_X11_in l v (nI 0) ((nI S.str) - (nI 1))) (va_cwS 3 hts (lw_S q908 q909 q65 q910) rfl rfl rfl hd_X11_in ⟨Nat.le_of_ble_eq_true rfl, Nat.le_of_ble_eq_true rfl⟩) pre0 rfl rfl hl.1 rfl (lv_room (Nat.le_of_ble_eq_true rfl)) dX11_isStreet_10 ⟨Nat.le_of_ble_eq_true rfl, Nat.le_of_ble_eq_true rfl⟩) ?_
  exact n_zret (Qc := fun _ _ _ _ => True) hx hb hr hlocks (by rw [inI_ix (by omega)]) dX11_isStreet_13
theorem hd_X11_isPerson : yX11_isPerson.cls ≠ "java/lang/invoke/MethodHandle" ∧ yX11_isPerson.cls ≠ "java/lang/invoke/VarHandle" ∧ (parseMethodDescriptor yX11_isPerson.desc).map (fun d => d.parameters.length) = some 1 := by decide +kernel
/-- X11_isPerson -/
theorem m_X11_isPerson (l : Launch) (D : va_G) (y : Nat → ClassId) (c : Nat → Nat) (J : MJ) (S : St) (hI : StOk S) (hO : MOk S J) (v : Int32) : Met l yX11_isPerson (ws_ yX11_isPerson cX11_isPerson 2 (some .boolean)) ({ frames := 1, cells := 0, slots := 0, locals := 22 }) (va_Pc [.ref (c 0), .int v] (WR D y (cellsM y c J))) (QcRead (zb (ixI v S.ppl))) 0 0 (fun _ => False) := by
  refine x_start (by decide) (Nat.le_of_ble_eq_true rfl) ?_
  intro p e s m below meth cd ls hx hb hr hts hml hown hlocks hnm hB hl
  have hC := hB.1
  obtain ⟨⟨hK, hN⟩, hP⟩ := hB
  have hown : s.vm.findClass RX11 = some m.cls := hown
  have hl : lv_has ls 2 [(0, .ref (c 0)), (1, .int v)] := hl
  have i1 := hI.ppl
  refine lv_iload_n hx hb dX11_isPerson_0 rfl (lv_at hl 1 rfl) ?_
  refine lv_iconst (v := nI 0) hx hb dX11_isPerson_1 (by decide) ?_
  refine lv_aload_n hx hb dX11_isPerson_2 rfl (lv_at hl 0 rfl) ?_
  refine va_get (D := D) (ci := 11) (v := .ref (c 7)) (C := RX11) (T := TX11) (N := 26) hx hb hts in_X11 hown hK hP 0 rfl rfl 7 (by decide) (hts _ q832) (fun _ h9 => h9) rfl dX11_isPerson_3 ?_
  refine lv_iconst (v := nI 0) hx hb dX11_isPerson_6 (by decide) ?_
  refine n_iald (v := nI S.ppl) hx hb hK hP 7 0 rfl rfl (j := 0) (by omega) (by decide) (hO.ppl) dX11_isPerson_7 ?_
  refine lv_iconst (v := nI 1) hx hb dX11_isPerson_8 (by decide) ?_
  refine lv_isub hx hb dX11_isPerson_9 ?_
  refine va_callR (va_runS (As := [.int v, .int (nI 0), .int ((nI S.ppl) - (nI 1))]) (rest := []) ⟨hx, hb, hml, hown, hts⟩ (m_X11_in l v (nI 0) ((nI S.ppl) - (nI 1))) (va_cwS 3 hts (lw_S q908 q909 q65 q910) rfl rfl rfl hd_X11_in ⟨Nat.le_of_ble_eq_true rfl, Nat.le_of_ble_eq_true rfl⟩) pre0 rfl rfl hl.1 rfl (lv_room (Nat.le_of_ble_eq_true rfl)) dX11_isPerson_10 ⟨Nat.le_of_ble_eq_true rfl, Nat.le_of_ble_eq_true rfl⟩) ?_
  exact n_zret (Qc := fun _ _ _ _ => True) hx hb hr hlocks (by rw [inI_ix (by omega)]) dX11_isPerson_13
theorem hd_X11_areTwo : yX11_areTwo.cls ≠ "java/lang/invoke/MethodHandle" ∧ yX11_areTwo.cls ≠ "java/lang/invoke/VarHandle" ∧ (parseMethodDescriptor yX11_areTwo.desc).map (fun d => d.parameters.length) = some 2 := by decide +kernel
/-- X11_areTwo -/
theorem m_X11_areTwo (l : Launch) (D : va_G) (y : Nat → ClassId) (c : Nat → Nat) (J : MJ) (S : St) (hI : StOk S) (hO : MOk S J) (a b : Int32) : Met l yX11_areTwo (ws_ yX11_areTwo cX11_areTwo 3 (some .boolean)) ({ frames := 2, cells := 0, slots := 0, locals := 43 }) (va_Pc [.ref (c 0), .int a, .int b] (WR D y (cellsM y c J))) (QcRead (zb (arY S a b))) 0 0 (fun _ => False) := by
  refine x_start (by decide) (Nat.le_of_ble_eq_true rfl) ?_
  intro p e s m below meth cd ls hx hb hr hts hml hown hlocks hnm hB hl
  have hC := hB.1
  obtain ⟨⟨hK, hN⟩, hP⟩ := hB
  have hown : s.vm.findClass RX11 = some m.cls := hown
  have hl : lv_has ls 3 [(0, .ref (c 0)), (1, .int a), (2, .int b)] := hl
  refine n_cut 26 [.int (zb (arY S a b))] (fun K => ?_) ?_
  · refine lv_aload_n hx hb dX11_areTwo_0 rfl (lv_at hl 0 rfl) ?_
    refine lv_iload_n hx hb dX11_areTwo_1 rfl (lv_at hl 1 rfl) ?_
    refine va_callR (va_runV (As := [.int a]) (rest := []) ⟨hx, hb, hml, hown, hts⟩ (m_X11_isYard l D y c J S hI hO a) (cwV 1 hts (lw_V q1022 q1024 qs45 q65 q1025) rfl rfl rfl ⟨rfl, hd_X11_isYard⟩ ⟨Nat.le_of_ble_eq_true rfl, Nat.le_of_ble_eq_true rfl⟩) (preVR hC hP 11 0 rfl rfl) rfl rfl hl.1 rfl (lv_room (Nat.le_of_ble_eq_true rfl)) dX11_areTwo_2 ⟨Nat.le_of_ble_eq_true rfl, Nat.le_of_ble_eq_true rfl⟩) ?_
    refine z_if_eq (tgt := 25) hx hb dX11_areTwo_5 (by decide) (fun h1 => ?_) (fun h1 => ?_)
    · refine lv_iconst (v := nI 0) hx hb dX11_areTwo_25 (by decide) ?_
      exact n_top (by simp [arY, h1, zb, nI_0]) K
    refine lv_aload_n hx hb dX11_areTwo_8 rfl (lv_at hl 0 rfl) ?_
    refine lv_iload_n hx hb dX11_areTwo_9 rfl (lv_at hl 2 rfl) ?_
    refine va_callR (va_runV (As := [.int b]) (rest := []) ⟨hx, hb, hml, hown, hts⟩ (m_X11_isYard l D y c J S hI hO b) (cwV 1 hts (lw_V q1022 q1024 qs45 q65 q1025) rfl rfl rfl ⟨rfl, hd_X11_isYard⟩ ⟨Nat.le_of_ble_eq_true rfl, Nat.le_of_ble_eq_true rfl⟩) (preVR hC hP 11 0 rfl rfl) rfl rfl hl.1 rfl (lv_room (Nat.le_of_ble_eq_true rfl)) dX11_areTwo_10 ⟨Nat.le_of_ble_eq_true rfl, Nat.le_of_ble_eq_true rfl⟩) ?_
    refine z_if_eq (tgt := 25) hx hb dX11_areTwo_13 (by decide) (fun h2 => ?_) (fun h2 => ?_)
    · refine lv_iconst (v := nI 0) hx hb dX11_areTwo_25 (by decide) ?_
      exact n_top (by simp [arY, h2, zb, nI_0]) K
    refine lv_iload_n hx hb dX11_areTwo_16 rfl (lv_at hl 1 rfl) ?_
    refine lv_iload_n hx hb dX11_areTwo_17 rfl (lv_at hl 2 rfl) ?_
    refine lv_icmp_eq (tgt := 25) hx hb dX11_areTwo_18 (by decide) (fun h3 => ?_) (fun h3 => ?_)
    · refine lv_iconst (v := nI 0) hx hb dX11_areTwo_25 (by decide) ?_
      exact n_top (by simp [arY, h3, zb, nI_0]) K
    refine lv_iconst (v := nI 1) hx hb dX11_areTwo_21 (by decide) ?_
    refine lv_goto (tgt := 26) hx hb dX11_areTwo_22 (by decide) ?_
    exact n_top (by rw [show arY S a b = true by simp [arY, h1, h2, h3]]; decide) K
  exact n_zret (Qc := fun _ _ _ _ => True) hx hb hr hlocks (rfl) dX11_areTwo_26
theorem hd_X11_widthOf : yX11_widthOf.cls ≠ "java/lang/invoke/MethodHandle" ∧ yX11_widthOf.cls ≠ "java/lang/invoke/VarHandle" ∧ (parseMethodDescriptor yX11_widthOf.desc).map (fun d => d.parameters.length) = some 1 := by decide +kernel
/-- X11_widthOf -/
theorem m_X11_widthOf (l : Launch) (D : va_G) (y : Nat → ClassId) (c : Nat → Nat) (J : MJ) (S : St) (hI : StOk S) (hO : MOk S J) (j : Nat) (hj : j < S.str) : Met l yX11_widthOf (ws_ yX11_widthOf cX11_widthOf 4 (some .int)) ({ frames := 0, cells := 0, slots := 0, locals := 0 }) (va_Pc [.ref (c 0), .int (nI j)] (WR D y (cellsM y c J))) (QcRead (nI (wid S.now j))) 0 0 (fun _ => False) := by
  refine x_start (by decide) (Nat.le_of_ble_eq_true rfl) ?_
  intro p e s m below meth cd ls hx hb hr hts hml hown hlocks hnm hB hl
  have hC := hB.1
  obtain ⟨⟨hK, hN⟩, hP⟩ := hB
  have hown : s.vm.findClass RX11 = some m.cls := hown
  have hl : lv_has ls 4 [(0, .ref (c 0)), (1, .int (nI j))] := hl
  have i1 := hI.now.seen j hj
  have i2 := hI.now.faked j hj
  have i3 := hI.now.night
  have i4 := hI.str
  refine lv_aload_n hx hb dX11_widthOf_0 rfl (lv_at hl 0 rfl) ?_
  refine va_get (D := D) (ci := 11) (v := .ref (c 10)) (C := RX11) (T := TX11) (N := 26) hx hb hts in_X11 hown hK hP 0 rfl rfl 16 (by decide) (hts _ q841) (fun _ h9 => h9) rfl dX11_widthOf_1 ?_
  refine lv_iconst (v := nI 1) hx hb dX11_widthOf_4 (by decide) ?_
  refine lv_iload_n hx hb dX11_widthOf_5 rfl (lv_at hl 1 rfl) ?_
  refine n_add hx hb dX11_widthOf_6 ?_
  refine n_iald (v := nI (S.now (1 + j))) hx hb hK hP 10 0 rfl rfl (j := (1 + j)) (by omega) (by decide) (hO.now.seen j (by omega)) dX11_widthOf_7 ?_
  refine lv_istore_n (lv' := [(2, .int (nI (S.now (1 + j)))), (0, .ref (c 0)), (1, .int (nI j))]) hx hb dX11_widthOf_8 rfl hl (by decide) rfl (fun ls hl => ?_)
  refine n_cut 32 [.int (nI (if S.now 0 = 1 then 0 else S.now (19 + j)))] (fun K => ?_) ?_
  · refine lv_aload_n hx hb dX11_widthOf_9 rfl (lv_at hl 1 rfl) ?_
    refine va_get (D := D) (ci := 11) (v := .ref (c 10)) (C := RX11) (T := TX11) (N := 26) hx hb hts in_X11 hown hK hP 0 rfl rfl 16 (by decide) (hts _ q841) (fun _ h9 => h9) rfl dX11_widthOf_10 ?_
    refine lv_iconst (v := nI 0) hx hb dX11_widthOf_13 (by decide) ?_
    refine n_iald (v := nI (S.now 0)) hx hb hK hP 10 0 rfl rfl (j := 0) (by omega) (by decide) (hO.now.night) dX11_widthOf_14 ?_
    refine lv_iconst (v := nI 1) hx hb dX11_widthOf_15 (by decide) ?_
    refine n_icmp_ne (tgt := 23) hx hb dX11_widthOf_16 (by decide) (by omega) (by omega) (fun h1 => ?_) (fun h1 => ?_)
    · refine lv_aload_n hx hb dX11_widthOf_23 rfl (lv_at hl 1 rfl) ?_
      refine va_get (D := D) (ci := 11) (v := .ref (c 10)) (C := RX11) (T := TX11) (N := 26) hx hb hts in_X11 hown hK hP 0 rfl rfl 16 (by decide) (hts _ q841) (fun _ h9 => h9) rfl dX11_widthOf_24 ?_
      refine lv_bipush (v := nI 19) hx hb dX11_widthOf_27 (by decide) ?_
      refine lv_iload_n hx hb dX11_widthOf_29 rfl (lv_at hl 2 rfl) ?_
      refine n_add hx hb dX11_widthOf_30 ?_
      refine n_iald (v := nI (S.now (19 + j))) hx hb hK hP 10 0 rfl rfl (j := (19 + j)) (by omega) (by decide) (hO.now.faked j (by omega)) dX11_widthOf_31 ?_
      exact n_top (by rw [if_neg h1]) K
    refine lv_iconst (v := nI 0) hx hb dX11_widthOf_19 (by decide) ?_
    refine lv_goto (tgt := 32) hx hb dX11_widthOf_20 (by decide) ?_
    exact n_top (by rw [if_pos h1]) K
  refine lv_istore_n (lv' := [(3, .int (nI (if S.now 0 = 1 then 0 else S.now (19 + j)))), (2, .int (nI (S.now (1 + j)))), (0, .ref (c 0)), (1, .int (nI j))]) hx hb dX11_widthOf_32 rfl hl (by decide) rfl (fun ls hl => ?_)
  have hf : (if S.now 0 = 1 then 0 else S.now (19 + j)) ≤ 9 := by split <;> omega
  generalize hF : (if S.now 0 = 1 then 0 else S.now (19 + j)) = fg at hl hf
  refine lv_iconst (v := nI 1) hx hb dX11_widthOf_33 (by decide) ?_
  refine n_cut 44 [.int (nI (if fg < S.now (1 + j) then S.now (1 + j) else fg)), .int (nI 1)] (fun K => ?_) ?_
  · refine lv_iload_n hx hb dX11_widthOf_34 rfl (lv_at hl 1 rfl) ?_
    refine lv_iload_n hx hb dX11_widthOf_35 rfl (lv_at hl 0 rfl) ?_
    refine n_icmp_le (tgt := 43) hx hb dX11_widthOf_36 (by decide) (by omega) (by omega) (fun h2 => ?_) (fun h2 => ?_)
    · refine lv_iload_n hx hb dX11_widthOf_43 rfl (lv_at hl 0 rfl) ?_
      exact n_top (by rw [if_neg (by omega)]) K
    refine lv_iload_n hx hb dX11_widthOf_39 rfl (lv_at hl 1 rfl) ?_
    refine lv_goto (tgt := 44) hx hb dX11_widthOf_40 (by decide) ?_
    exact n_top (by rw [if_pos h2]) K
  refine n_add hx hb dX11_widthOf_44 ?_
  exact n_iret (Qc := fun _ _ _ _ => True) hx hb hr hlocks (by rw [← wid_m i3, hF]) dX11_widthOf_45
theorem hd_X11_allWidths : yX11_allWidths.cls ≠ "java/lang/invoke/MethodHandle" ∧ yX11_allWidths.cls ≠ "java/lang/invoke/VarHandle" ∧ (parseMethodDescriptor yX11_allWidths.desc).map (fun d => d.parameters.length) = some 0 := by decide +kernel
/-- X11_allWidths -/
theorem m_X11_allWidths (l : Launch) (D : va_G) (y : Nat → ClassId) (c : Nat → Nat) (J : MJ) (S : St) (hI : StOk S) (hO : MOk S J)  : Met l yX11_allWidths (ws_ yX11_allWidths cX11_allWidths 3 (some .int)) ({ frames := 1, cells := 0, slots := 0, locals := 23 }) (va_Pc [.ref (c 0)] (WR D y (cellsM y c J))) (QcRead (nI (sumF S (2 ^ S.str - 1) S.str))) 0 0 (fun _ => False) := by
  refine x_start (by decide) (Nat.le_of_ble_eq_true rfl) ?_
  intro p e s m below meth cd ls hx hb hr hts hml hown hlocks hnm hB hl
  have hC := hB.1
  obtain ⟨⟨hK, hN⟩, hP⟩ := hB
  have hown : s.vm.findClass RX11 = some m.cls := hown
  have hl : lv_has ls 3 [(0, .ref (c 0))] := hl
  have i1 := hI.str
  refine lv_iconst (v := nI 0) hx hb dX11_allWidths_0 (by decide) ?_
  refine lv_istore_n (lv' := [(1, .int (nI 0)), (0, .ref (c 0))]) hx hb dX11_allWidths_1 rfl hl (by decide) rfl (fun ls hl => ?_)
  refine lv_iconst (v := nI 0) hx hb dX11_allWidths_2 (by decide) ?_
  refine lv_istore_n (lv' := [(2, .int (nI 0)), (1, .int (nI 0)), (0, .ref (c 0))]) hx hb dX11_allWidths_3 rfl hl (by decide) rfl (fun ls hl => ?_)
  refine w_loop (nL := 3) 4 (fun i => [(0, .ref (c 0)), (1, .int (nI (sumF S (2 ^ S.str - 1) i))), (2, .int (nI i))]) (fun i => i ≤ S.str) (fun i => S.str - i) ?_ 0 (Nat.zero_le _) ls (lv_sub hl [2, 1, 0] rfl)
  rintro i hi ih ls hl
  have hl : lv_has ls 3 [(0, .ref (c 0)), (1, .int (nI (sumF S (2 ^ S.str - 1) i))), (2, .int (nI i))] := hl
  refine lv_iload_n hx hb dX11_allWidths_4 rfl (lv_at hl 2 rfl) ?_
  refine lv_aload_n hx hb dX11_allWidths_5 rfl (lv_at hl 0 rfl) ?_
  refine va_get (D := D) (ci := 11) (v := .ref (c 3)) (C := RX11) (T := TX11) (N := 26) hx hb hts in_X11 hown hK hP 0 rfl rfl 3 (by decide) (hts _ q828) (fun _ h9 => h9) rfl dX11_allWidths_6 ?_
  refine lv_iconst (v := nI 0) hx hb dX11_allWidths_9 (by decide) ?_
  refine n_iald (v := nI S.str) hx hb hK hP 3 0 rfl rfl (j := 0) (by omega) (by decide) (hO.str) dX11_allWidths_10 ?_
  refine n_icmp_ge (tgt := 28) hx hb dX11_allWidths_11 (by decide) (by omega) (by omega) (fun h1 => ?_) (fun h1 => ?_)
  · refine lv_iload_n hx hb dX11_allWidths_28 rfl (lv_at hl 1 rfl) ?_
    exact n_iret (Qc := fun _ _ _ _ => True) hx hb hr hlocks (by rw [show i = S.str by omega]) dX11_allWidths_29
  refine lv_iload_n hx hb dX11_allWidths_14 rfl (lv_at hl 1 rfl) ?_
  refine lv_aload_n hx hb dX11_allWidths_15 rfl (lv_at hl 0 rfl) ?_
  refine lv_iload_n hx hb dX11_allWidths_16 rfl (lv_at hl 2 rfl) ?_
  refine va_callR (va_runV (As := [.int (nI i)]) (rest := [.int (nI (sumF S (2 ^ S.str - 1) i))]) ⟨hx, hb, hml, hown, hts⟩ (m_X11_widthOf l D y c J S hI hO i (by omega)) (cwV 1 hts (lw_V q955 q957 qs37 q65 q958) rfl rfl rfl ⟨rfl, hd_X11_widthOf⟩ ⟨Nat.le_of_ble_eq_true rfl, Nat.le_of_ble_eq_true rfl⟩) (preVR hC hP 11 0 rfl rfl) rfl rfl hl.1 rfl (lv_room (Nat.le_of_ble_eq_true rfl)) dX11_allWidths_17 ⟨Nat.le_of_ble_eq_true rfl, Nat.le_of_ble_eq_true rfl⟩) ?_
  refine n_add hx hb dX11_allWidths_20 ?_
  refine n_top (y := nI (sumF S (2 ^ S.str - 1) (i + 1))) (congrArg nI (sum_all (by omega))) ?_
  refine lv_istore_n (lv' := [(1, .int (nI (sumF S (2 ^ S.str - 1) (i + 1)))), (0, .ref (c 0)), (2, .int (nI i))]) hx hb dX11_allWidths_21 rfl hl (by decide) rfl (fun ls hl => ?_)
  refine lv_iinc (v := nI (i + 1)) (lv' := [(2, .int (nI (i + 1))), (1, .int (nI (sumF S (2 ^ S.str - 1) (i + 1)))), (0, .ref (c 0))]) hx hb dX11_allWidths_22 hl (k := 2) rfl (nI_inc _) (by decide) rfl (fun ls hl => ?_)
  refine lv_goto (tgt := 4) hx hb dX11_allWidths_25 (by decide) ?_
  exact ih (i + 1) (by omega) (by omega) ls (lv_sub hl [2, 1, 0] rfl)
theorem hd_X11_livingIn : yX11_livingIn.cls ≠ "java/lang/invoke/MethodHandle" ∧ yX11_livingIn.cls ≠ "java/lang/invoke/VarHandle" ∧ (parseMethodDescriptor yX11_livingIn.desc).map (fun d => d.parameters.length) = some 1 := by decide +kernel
/-- X11_livingIn -/
theorem m_X11_livingIn (l : Launch) (D : va_G) (y : Nat → ClassId) (c : Nat → Nat) (J : MJ) (S : St) (hI : StOk S) (hO : MOk S J) (j : Nat) (hj : j < S.str) : Met l yX11_livingIn (ws_ yX11_livingIn cX11_livingIn 4 (some .int)) ({ frames := 0, cells := 0, slots := 0, locals := 0 }) (va_Pc [.ref (c 0), .int (nI j)] (WR D y (cellsM y c J))) (QcRead (nI (livF S.now j S.ppl))) 0 0 (fun _ => False) := by
  refine x_start (by decide) (Nat.le_of_ble_eq_true rfl) ?_
  intro p e s m below meth cd ls hx hb hr hts hml hown hlocks hnm hB hl
  have hC := hB.1
  obtain ⟨⟨hK, hN⟩, hP⟩ := hB
  have hown : s.vm.findClass RX11 = some m.cls := hown
  have hl : lv_has ls 4 [(0, .ref (c 0)), (1, .int (nI j))] := hl
  have i1 := hI.str
  have i2 := hI.ppl
  refine lv_iconst (v := nI 0) hx hb dX11_livingIn_0 (by decide) ?_
  refine lv_istore_n (lv' := [(2, .int (nI 0)), (0, .ref (c 0)), (1, .int (nI j))]) hx hb dX11_livingIn_1 rfl hl (by decide) rfl (fun ls hl => ?_)
  refine lv_iconst (v := nI 0) hx hb dX11_livingIn_2 (by decide) ?_
  refine lv_istore_n (lv' := [(3, .int (nI 0)), (2, .int (nI 0)), (0, .ref (c 0)), (1, .int (nI j))]) hx hb dX11_livingIn_3 rfl hl (by decide) rfl (fun ls hl => ?_)
  refine w_loop (nL := 4) 4 (fun i => [(0, .ref (c 0)), (1, .int (nI j)), (2, .int (nI (livF S.now j i))), (3, .int (nI i))]) (fun i => i ≤ S.ppl) (fun i => S.ppl - i) ?_ 0 (Nat.zero_le _) ls (lv_sub hl [2, 3, 1, 0] rfl)
  rintro i hi ih ls hl
  have hl : lv_has ls 4 [(0, .ref (c 0)), (1, .int (nI j)), (2, .int (nI (livF S.now j i))), (3, .int (nI i))] := hl
  refine lv_iload_n hx hb dX11_livingIn_4 rfl (lv_at hl 3 rfl) ?_
  refine lv_aload_n hx hb dX11_livingIn_5 rfl (lv_at hl 0 rfl) ?_
  refine va_get (D := D) (ci := 11) (v := .ref (c 7)) (C := RX11) (T := TX11) (N := 26) hx hb hts in_X11 hown hK hP 0 rfl rfl 7 (by decide) (hts _ q832) (fun _ h9 => h9) rfl dX11_livingIn_6 ?_
  refine lv_iconst (v := nI 0) hx hb dX11_livingIn_9 (by decide) ?_
  refine n_iald (v := nI S.ppl) hx hb hK hP 7 0 rfl rfl (j := 0) (by omega) (by decide) (hO.ppl) dX11_livingIn_10 ?_
  refine n_icmp_ge (tgt := 43) hx hb dX11_livingIn_11 (by decide) (by omega) (by omega) (fun h1 => ?_) (fun h1 => ?_)
  · refine lv_iload_n hx hb dX11_livingIn_43 rfl (lv_at hl 2 rfl) ?_
    exact n_iret (Qc := fun _ _ _ _ => True) hx hb hr hlocks (by rw [show i = S.ppl by omega]) dX11_livingIn_44
  have h2 := hI.now.home i (by omega)
  refine lv_iload_n hx hb dX11_livingIn_14 rfl (lv_at hl 2 rfl) ?_
  refine lv_aload_n hx hb dX11_livingIn_15 rfl (lv_at hl 0 rfl) ?_
  refine va_get (D := D) (ci := 11) (v := .ref (c 10)) (C := RX11) (T := TX11) (N := 26) hx hb hts in_X11 hown hK hP 0 rfl rfl 16 (by decide) (hts _ q841) (fun _ h9 => h9) rfl dX11_livingIn_16 ?_
  refine lv_bipush (v := nI 28) hx hb dX11_livingIn_19 (by decide) ?_
  refine lv_iload_n hx hb dX11_livingIn_21 rfl (lv_at hl 3 rfl) ?_
  refine n_add hx hb dX11_livingIn_22 ?_
  refine n_iald (v := nI (S.now (28 + i))) hx hb hK hP 10 0 rfl rfl (j := (28 + i)) (by omega) (by decide) (hO.now.home i (by omega)) dX11_livingIn_23 ?_
  refine lv_iload_n hx hb dX11_livingIn_24 rfl (lv_at hl 1 rfl) ?_
  refine n_cut 35 [.int (nI (if S.now (28 + i) = j then 2 ^ i else 0)), .int (nI (livF S.now j i))] (fun K => ?_) ?_
  · refine n_icmp_ne (tgt := 34) hx hb dX11_livingIn_25 (by decide) (by omega) (by omega) (fun h3 => ?_) (fun h3 => ?_)
    · refine lv_iconst (v := nI 0) hx hb dX11_livingIn_34 (by decide) ?_
      exact n_top (by rw [if_neg h3]) K
    refine lv_iconst (v := nI 1) hx hb dX11_livingIn_28 (by decide) ?_
    refine lv_iload_n hx hb dX11_livingIn_29 rfl (lv_at hl 3 rfl) ?_
    refine n_shl1 hx hb dX11_livingIn_30 (by omega) ?_
    refine lv_goto (tgt := 35) hx hb dX11_livingIn_31 (by decide) ?_
    exact n_top (by rw [if_pos h3]) K
  refine n_or hx hb dX11_livingIn_35 ?_
  refine lv_istore_n (lv' := [(2, .int (nI ((livF S.now j i) ||| (if S.now (28 + i) = j then 2 ^ i else 0)))), (0, .ref (c 0)), (1, .int (nI j)), (3, .int (nI i))]) hx hb dX11_livingIn_36 rfl hl (by decide) rfl (fun ls hl => ?_)
  refine lv_iinc (v := nI (i + 1)) (lv' := [(3, .int (nI (i + 1))), (2, .int (nI ((livF S.now j i) ||| (if S.now (28 + i) = j then 2 ^ i else 0)))), (0, .ref (c 0)), (1, .int (nI j))]) hx hb dX11_livingIn_37 hl (k := 3) rfl (nI_inc _) (by decide) rfl (fun ls hl => ?_)
  refine lv_goto (tgt := 4) hx hb dX11_livingIn_40 (by decide) ?_
  exact ih (i + 1) (by omega) (by omega) ls (lv_sub hl [2, 3, 1, 0] rfl)
theorem hd_X11_doMeet : yX11_doMeet.cls ≠ "java/lang/invoke/MethodHandle" ∧ yX11_doMeet.cls ≠ "java/lang/invoke/VarHandle" ∧ (parseMethodDescriptor yX11_doMeet.desc).map (fun d => d.parameters.length) = some 2 := by decide +kernel
/-- X11_doMeet -/
theorem m_X11_doMeet (l : Launch) (D : va_G) (y : Nat → ClassId) (c : Nat → Nat) (J : MJ) (S : St) (hI : StOk S) (hO : MOk S J) (j k : Nat) (hj : j < S.str) (hk : k < S.str) : Met l yX11_doMeet (ws_ yX11_doMeet cX11_doMeet 3 (some .boolean)) ({ frames := 0, cells := 0, slots := 0, locals := 0 }) (va_Pc [.ref (c 0), .int (nI j), .int (nI k)] (WR D y (cellsM y c J))) (QcRead (zb (meetF S j k))) 0 0 (fun _ => False) := by
  refine x_start (by decide) (Nat.le_of_ble_eq_true rfl) ?_
  intro p e s m below meth cd ls hx hb hr hts hml hown hlocks hnm hB hl
  have hC := hB.1
  obtain ⟨⟨hK, hN⟩, hP⟩ := hB
  have hown : s.vm.findClass RX11 = some m.cls := hown
  have hl : lv_has ls 3 [(0, .ref (c 0)), (1, .int (nI j)), (2, .int (nI k))] := hl
  have i0 := hI.yds
  have i1 := hI.one j hj
  have i2 := hI.one k hk
  have i3 := hI.oth j hj
  have i4 := hI.oth k hk
  have i5 := hI.str
  refine n_cut 65 [.int (zb (meetF S j k))] (fun K => ?_) ?_
  · refine lv_aload_n hx hb dX11_doMeet_0 rfl (lv_at hl 0 rfl) ?_
    refine va_get (D := D) (ci := 11) (v := .ref (c 4)) (C := RX11) (T := TX11) (N := 26) hx hb hts in_X11 hown hK hP 0 rfl rfl 4 (by decide) (hts _ q829) (fun _ h9 => h9) rfl dX11_doMeet_1 ?_
    refine lv_iload_n hx hb dX11_doMeet_4 rfl (lv_at hl 1 rfl) ?_
    refine n_iald (v := nI (S.one j)) hx hb hK hP 4 0 rfl rfl (j := j) (by omega) (by decide) (hO.one j (by omega)) dX11_doMeet_5 ?_
    refine lv_aload_n hx hb dX11_doMeet_6 rfl (lv_at hl 0 rfl) ?_
    refine va_get (D := D) (ci := 11) (v := .ref (c 4)) (C := RX11) (T := TX11) (N := 26) hx hb hts in_X11 hown hK hP 0 rfl rfl 4 (by decide) (hts _ q829) (fun _ h9 => h9) rfl dX11_doMeet_7 ?_
    refine lv_iload_n hx hb dX11_doMeet_10 rfl (lv_at hl 2 rfl) ?_
    refine n_iald (v := nI (S.one k)) hx hb hK hP 4 0 rfl rfl (j := k) (by omega) (by decide) (hO.one k (by omega)) dX11_doMeet_11 ?_
    refine n_icmp_eq (tgt := 60) hx hb dX11_doMeet_12 (by decide) (by omega) (by omega) (fun h1 => ?_) (fun h1 => ?_)
    · refine lv_iconst (v := nI 1) hx hb dX11_doMeet_60 (by decide) ?_
      refine lv_goto (tgt := 65) hx hb dX11_doMeet_61 (by decide) ?_
      exact n_top (by rw [show meetF S j k = true by simp [meetF, h1]]; decide) K
    refine lv_aload_n hx hb dX11_doMeet_15 rfl (lv_at hl 0 rfl) ?_
    refine va_get (D := D) (ci := 11) (v := .ref (c 4)) (C := RX11) (T := TX11) (N := 26) hx hb hts in_X11 hown hK hP 0 rfl rfl 4 (by decide) (hts _ q829) (fun _ h9 => h9) rfl dX11_doMeet_16 ?_
    refine lv_iload_n hx hb dX11_doMeet_19 rfl (lv_at hl 1 rfl) ?_
    refine n_iald (v := nI (S.one j)) hx hb hK hP 4 0 rfl rfl (j := j) (by omega) (by decide) (hO.one j (by omega)) dX11_doMeet_20 ?_
    refine lv_aload_n hx hb dX11_doMeet_21 rfl (lv_at hl 0 rfl) ?_
    refine va_get (D := D) (ci := 11) (v := .ref (c 5)) (C := RX11) (T := TX11) (N := 26) hx hb hts in_X11 hown hK hP 0 rfl rfl 5 (by decide) (hts _ q830) (fun _ h9 => h9) rfl dX11_doMeet_22 ?_
    refine lv_iload_n hx hb dX11_doMeet_25 rfl (lv_at hl 2 rfl) ?_
    refine n_iald (v := nI (S.oth k)) hx hb hK hP 5 0 rfl rfl (j := k) (by omega) (by decide) (hO.oth k (by omega)) dX11_doMeet_26 ?_
    refine n_icmp_eq (tgt := 60) hx hb dX11_doMeet_27 (by decide) (by omega) (by omega) (fun h2 => ?_) (fun h2 => ?_)
    · refine lv_iconst (v := nI 1) hx hb dX11_doMeet_60 (by decide) ?_
      refine lv_goto (tgt := 65) hx hb dX11_doMeet_61 (by decide) ?_
      exact n_top (by rw [show meetF S j k = true by simp [meetF, h1, h2]]; decide) K
    refine lv_aload_n hx hb dX11_doMeet_30 rfl (lv_at hl 0 rfl) ?_
    refine va_get (D := D) (ci := 11) (v := .ref (c 5)) (C := RX11) (T := TX11) (N := 26) hx hb hts in_X11 hown hK hP 0 rfl rfl 5 (by decide) (hts _ q830) (fun _ h9 => h9) rfl dX11_doMeet_31 ?_
    refine lv_iload_n hx hb dX11_doMeet_34 rfl (lv_at hl 1 rfl) ?_
    refine n_iald (v := nI (S.oth j)) hx hb hK hP 5 0 rfl rfl (j := j) (by omega) (by decide) (hO.oth j (by omega)) dX11_doMeet_35 ?_
    refine lv_aload_n hx hb dX11_doMeet_36 rfl (lv_at hl 0 rfl) ?_
    refine va_get (D := D) (ci := 11) (v := .ref (c 4)) (C := RX11) (T := TX11) (N := 26) hx hb hts in_X11 hown hK hP 0 rfl rfl 4 (by decide) (hts _ q829) (fun _ h9 => h9) rfl dX11_doMeet_37 ?_
    refine lv_iload_n hx hb dX11_doMeet_40 rfl (lv_at hl 2 rfl) ?_
    refine n_iald (v := nI (S.one k)) hx hb hK hP 4 0 rfl rfl (j := k) (by omega) (by decide) (hO.one k (by omega)) dX11_doMeet_41 ?_
    refine n_icmp_eq (tgt := 60) hx hb dX11_doMeet_42 (by decide) (by omega) (by omega) (fun h3 => ?_) (fun h3 => ?_)
    · refine lv_iconst (v := nI 1) hx hb dX11_doMeet_60 (by decide) ?_
      refine lv_goto (tgt := 65) hx hb dX11_doMeet_61 (by decide) ?_
      exact n_top (by rw [show meetF S j k = true by simp [meetF, h1, h2, h3]]; decide) K
    refine lv_aload_n hx hb dX11_doMeet_45 rfl (lv_at hl 0 rfl) ?_
    refine va_get (D := D) (ci := 11) (v := .ref (c 5)) (C := RX11) (T := TX11) (N := 26) hx hb hts in_X11 hown hK hP 0 rfl rfl 5 (by decide) (hts _ q830) (fun _ h9 => h9) rfl dX11_doMeet_46 ?_
    refine lv_iload_n hx hb dX11_doMeet_49 rfl (lv_at hl 1 rfl) ?_
    refine n_iald (v := nI (S.oth j)) hx hb hK hP 5 0 rfl rfl (j := j) (by omega) (by decide) (hO.oth j (by omega)) dX11_doMeet_50 ?_
    refine lv_aload_n hx hb dX11_doMeet_51 rfl (lv_at hl 0 rfl) ?_
    refine va_get (D := D) (ci := 11) (v := .ref (c 5)) (C := RX11) (T := TX11) (N := 26) hx hb hts in_X11 hown hK hP 0 rfl rfl 5 (by decide) (hts _ q830) (fun _ h9 => h9) rfl dX11_doMeet_52 ?_
    refine lv_iload_n hx hb dX11_doMeet_55 rfl (lv_at hl 2 rfl) ?_
    refine n_iald (v := nI (S.oth k)) hx hb hK hP 5 0 rfl rfl (j := k) (by omega) (by decide) (hO.oth k (by omega)) dX11_doMeet_56 ?_
    refine n_icmp_ne (tgt := 64) hx hb dX11_doMeet_57 (by decide) (by omega) (by omega) (fun h4 => ?_) (fun h4 => ?_)
    · refine lv_iconst (v := nI 0) hx hb dX11_doMeet_64 (by decide) ?_
      exact n_top (by rw [show meetF S j k = false by simp [meetF, h1, h2, h3, h4]]; decide) K
    refine lv_iconst (v := nI 1) hx hb dX11_doMeet_60 (by decide) ?_
    refine lv_goto (tgt := 65) hx hb dX11_doMeet_61 (by decide) ?_
    exact n_top (by rw [show meetF S j k = true by simp [meetF, h4]]; decide) K
  exact n_zret (Qc := fun _ _ _ _ => True) hx hb hr hlocks (rfl) dX11_doMeet_65
theorem hd_X11_witnesses : yX11_witnesses.cls ≠ "java/lang/invoke/MethodHandle" ∧ yX11_witnesses.cls ≠ "java/lang/invoke/VarHandle" ∧ (parseMethodDescriptor yX11_witnesses.desc).map (fun d => d.parameters.length) = some 1 := by decide +kernel
/-- X11_witnesses -/
theorem m_X11_witnesses (l : Launch) (D : va_G) (y : Nat → ClassId) (c : Nat → Nat) (J : MJ) (S : St) (hI : StOk S) (hO : MOk S J) (j : Nat) (hj : j < S.ppl) : Met l yX11_witnesses (ws_ yX11_witnesses cX11_witnesses 4 (some .int)) ({ frames := 1, cells := 0, slots := 0, locals := 22 }) (va_Pc [.ref (c 0), .int (nI j)] (WR D y (cellsM y c J))) (QcRead (nI (witF S j S.ppl))) 0 0 (fun _ => False) := by
  refine x_start (by decide) (Nat.le_of_ble_eq_true rfl) ?_
  intro p e s m below meth cd ls hx hb hr hts hml hown hlocks hnm hB hl
  have hC := hB.1
  obtain ⟨⟨hK, hN⟩, hP⟩ := hB
  have hown : s.vm.findClass RX11 = some m.cls := hown
  have hl : lv_has ls 4 [(0, .ref (c 0)), (1, .int (nI j))] := hl
  have i1 := hI.str
  have i2 := hI.ppl
  have i3 := hI.now.home j hj
  refine lv_iconst (v := nI 0) hx hb dX11_witnesses_0 (by decide) ?_
  refine lv_istore_n (lv' := [(2, .int (nI 0)), (0, .ref (c 0)), (1, .int (nI j))]) hx hb dX11_witnesses_1 rfl hl (by decide) rfl (fun ls hl => ?_)
  refine lv_iconst (v := nI 0) hx hb dX11_witnesses_2 (by decide) ?_
  refine lv_istore_n (lv' := [(3, .int (nI 0)), (2, .int (nI 0)), (0, .ref (c 0)), (1, .int (nI j))]) hx hb dX11_witnesses_3 rfl hl (by decide) rfl (fun ls hl => ?_)
  refine w_loop (nL := 4) 4 (fun i => [(0, .ref (c 0)), (1, .int (nI j)), (2, .int (nI (witF S j i))), (3, .int (nI i))]) (fun i => i ≤ S.ppl) (fun i => S.ppl - i) ?_ 0 (Nat.zero_le _) ls (lv_sub hl [2, 3, 1, 0] rfl)
  rintro i hi ih ls hl
  have hl : lv_has ls 4 [(0, .ref (c 0)), (1, .int (nI j)), (2, .int (nI (witF S j i))), (3, .int (nI i))] := hl
  refine lv_iload_n hx hb dX11_witnesses_4 rfl (lv_at hl 3 rfl) ?_
  refine lv_aload_n hx hb dX11_witnesses_5 rfl (lv_at hl 0 rfl) ?_
  refine va_get (D := D) (ci := 11) (v := .ref (c 7)) (C := RX11) (T := TX11) (N := 26) hx hb hts in_X11 hown hK hP 0 rfl rfl 7 (by decide) (hts _ q832) (fun _ h9 => h9) rfl dX11_witnesses_6 ?_
  refine lv_iconst (v := nI 0) hx hb dX11_witnesses_9 (by decide) ?_
  refine n_iald (v := nI S.ppl) hx hb hK hP 7 0 rfl rfl (j := 0) (by omega) (by decide) (hO.ppl) dX11_witnesses_10 ?_
  refine n_icmp_ge (tgt := 60) hx hb dX11_witnesses_11 (by decide) (by omega) (by omega) (fun h1 => ?_) (fun h1 => ?_)
  · refine lv_iload_n hx hb dX11_witnesses_60 rfl (lv_at hl 2 rfl) ?_
    exact n_iret (Qc := fun _ _ _ _ => True) hx hb hr hlocks (by rw [show i = S.ppl by omega]) dX11_witnesses_61
  have h2 := hI.now.home i (by omega)
  refine n_cut 52 [.int (nI (if i ≠ j ∧ meetF S (S.now (28 + j)) (S.now (28 + i)) = true then 2 ^ i else 0)), .int (nI (witF S j i))] (fun K => ?_) ?_
  · refine lv_iload_n hx hb dX11_witnesses_14 rfl (lv_at hl 2 rfl) ?_
    refine lv_iload_n hx hb dX11_witnesses_15 rfl (lv_at hl 3 rfl) ?_
    refine lv_iload_n hx hb dX11_witnesses_16 rfl (lv_at hl 1 rfl) ?_
    refine n_icmp_eq (tgt := 51) hx hb dX11_witnesses_17 (by decide) (by omega) (by omega) (fun h3 => ?_) (fun h3 => ?_)
    · refine lv_iconst (v := nI 0) hx hb dX11_witnesses_51 (by decide) ?_
      exact n_top (by rw [if_neg (fun q => q.1 h3)]) K
    refine lv_aload_n hx hb dX11_witnesses_20 rfl (lv_at hl 0 rfl) ?_
    refine lv_aload_n hx hb dX11_witnesses_21 rfl (lv_at hl 0 rfl) ?_
    refine va_get (D := D) (ci := 11) (v := .ref (c 10)) (C := RX11) (T := TX11) (N := 26) hx hb hts in_X11 hown hK hP 0 rfl rfl 16 (by decide) (hts _ q841) (fun _ h9 => h9) rfl dX11_witnesses_22 ?_
    refine lv_bipush (v := nI 28) hx hb dX11_witnesses_25 (by decide) ?_
    refine lv_iload_n hx hb dX11_witnesses_27 rfl (lv_at hl 1 rfl) ?_
    refine n_add hx hb dX11_witnesses_28 ?_
    refine n_iald (v := nI (S.now (28 + j))) hx hb hK hP 10 0 rfl rfl (j := (28 + j)) (by omega) (by decide) (hO.now.home j (by omega)) dX11_witnesses_29 ?_
    refine lv_aload_n hx hb dX11_witnesses_30 rfl (lv_at hl 0 rfl) ?_
    refine va_get (D := D) (ci := 11) (v := .ref (c 10)) (C := RX11) (T := TX11) (N := 26) hx hb hts in_X11 hown hK hP 0 rfl rfl 16 (by decide) (hts _ q841) (fun _ h9 => h9) rfl dX11_witnesses_31 ?_
    refine lv_bipush (v := nI 28) hx hb dX11_witnesses_34 (by decide) ?_
    refine lv_iload_n hx hb dX11_witnesses_36 rfl (lv_at hl 3 rfl) ?_
    refine n_add hx hb dX11_witnesses_37 ?_
    refine n_iald (v := nI (S.now (28 + i))) hx hb hK hP 10 0 rfl rfl (j := (28 + i)) (by omega) (by decide) (hO.now.home i (by omega)) dX11_witnesses_38 ?_
    refine va_callR (va_runV (As := [.int (nI (S.now (28 + j))), .int (nI (S.now (28 + i)))]) (rest := [.int (nI (witF S j i))]) ⟨hx, hb, hml, hown, hts⟩ (m_X11_doMeet l D y c J S hI hO (S.now (28 + j)) (S.now (28 + i)) (by omega) (by omega)) (cwV 2 hts (lw_V q975 q977 qs41 q65 q978) rfl rfl rfl ⟨rfl, hd_X11_doMeet⟩ ⟨Nat.le_of_ble_eq_true rfl, Nat.le_of_ble_eq_true rfl⟩) (preVR hC hP 11 0 rfl rfl) rfl rfl hl.1 rfl (lv_room (Nat.le_of_ble_eq_true rfl)) dX11_witnesses_39 ⟨Nat.le_of_ble_eq_true rfl, Nat.le_of_ble_eq_true rfl⟩) ?_
    refine z_if_eq (tgt := 51) hx hb dX11_witnesses_42 (by decide) (fun h4 => ?_) (fun h4 => ?_)
    · refine lv_iconst (v := nI 0) hx hb dX11_witnesses_51 (by decide) ?_
      exact n_top (by rw [if_neg (fun q => by rw [h4] at q; exact absurd q.2 (by decide))]) K
    refine lv_iconst (v := nI 1) hx hb dX11_witnesses_45 (by decide) ?_
    refine lv_iload_n hx hb dX11_witnesses_46 rfl (lv_at hl 3 rfl) ?_
    refine n_shl1 hx hb dX11_witnesses_47 (by omega) ?_
    refine lv_goto (tgt := 52) hx hb dX11_witnesses_48 (by decide) ?_
    exact n_top (by rw [if_pos ⟨h3, h4⟩]) K
  refine n_or hx hb dX11_witnesses_52 ?_
  refine lv_istore_n (lv' := [(2, .int (nI ((witF S j i) ||| (if i ≠ j ∧ meetF S (S.now (28 + j)) (S.now (28 + i)) = true then 2 ^ i else 0)))), (0, .ref (c 0)), (1, .int (nI j)), (3, .int (nI i))]) hx hb dX11_witnesses_53 rfl hl (by decide) rfl (fun ls hl => ?_)
  refine lv_iinc (v := nI (i + 1)) (lv' := [(3, .int (nI (i + 1))), (2, .int (nI ((witF S j i) ||| (if i ≠ j ∧ meetF S (S.now (28 + j)) (S.now (28 + i)) = true then 2 ^ i else 0)))), (0, .ref (c 0)), (1, .int (nI j))]) hx hb dX11_witnesses_54 hl (k := 3) rfl (nI_inc _) (by decide) rfl (fun ls hl => ?_)
  refine lv_goto (tgt := 4) hx hb dX11_witnesses_57 (by decide) ?_
  exact ih (i + 1) (by omega) (by omega) ls (lv_sub hl [2, 3, 1, 0] rfl)
theorem hd_X11_street : yX11_street.cls ≠ "java/lang/invoke/MethodHandle" ∧ yX11_street.cls ≠ "java/lang/invoke/VarHandle" ∧ (parseMethodDescriptor yX11_street.desc).map (fun d => d.parameters.length) = some 2 := by decide +kernel
/-- X11_street -/
theorem m_X11_street (l : Launch) (D : va_G) (y : Nat → ClassId) (c : Nat → Nat) (J : MJ) (S : St) (hI : StOk S) (hO : MOk S J) (v w : Int32) : Met l yX11_street (ws_ yX11_street cX11_street 3 (some .int)) ({ frames := 2, cells := 0, slots := 0, locals := 43 }) (va_Pc [.ref (c 0), .int v, .int w] (WR D y (cellsM y c J))) (QcRead (ansStreet S v w)) 0 0 (fun _ => False) := by
  refine x_start (by decide) (Nat.le_of_ble_eq_true rfl) ?_
  intro p e s m below meth cd ls hx hb hr hts hml hown hlocks hnm hB hl
  have hC := hB.1
  obtain ⟨⟨hK, hN⟩, hP⟩ := hB
  have hown : s.vm.findClass RX11 = some m.cls := hown
  have hl : lv_has ls 3 [(0, .ref (c 0)), (1, .int v), (2, .int w)] := hl
  have i1 := hI.str
  refine lv_aload_n hx hb dX11_street_0 rfl (lv_at hl 0 rfl) ?_
  refine lv_iload_n hx hb dX11_street_1 rfl (lv_at hl 1 rfl) ?_
  refine va_callR (va_runV (As := [.int v]) (rest := []) ⟨hx, hb, hml, hown, hts⟩ (m_X11_isStreet l D y c J S hI hO v) (cwV 1 hts (lw_V q951 q953 qs36 q65 q954) rfl rfl rfl ⟨rfl, hd_X11_isStreet⟩ ⟨Nat.le_of_ble_eq_true rfl, Nat.le_of_ble_eq_true rfl⟩) (preVR hC hP 11 0 rfl rfl) rfl rfl hl.1 rfl (lv_room (Nat.le_of_ble_eq_true rfl)) dX11_street_2 ⟨Nat.le_of_ble_eq_true rfl, Nat.le_of_ble_eq_true rfl⟩) ?_
  refine z_if_ne (tgt := 10) hx hb dX11_street_5 (by decide) (fun h1 => ?_) (fun h1 => ?_)
  rotate_left
  · refine lv_iconst (v := (-1)) hx hb dX11_street_8 (by decide) ?_
    exact n_iret (Qc := fun _ _ _ _ => True) hx hb hr hlocks (by rw [ansStreet, if_neg (bnf h1)]) dX11_street_9
  have h0 := h1
  obtain ⟨j, hj, rfl⟩ := ixI_of h1
  refine lv_iload_n hx hb dX11_street_10 rfl (lv_at hl 2 rfl) ?_
  by_cases w0 : w = nI 0
  · subst w0
    refine lv_tableIn (off := 41) (tgt := 52) hx hb dX11_street_11 (by decide) (by decide) rfl (by decide) ?_
    refine lv_aload_n hx hb dX11_street_52 rfl (lv_at hl 0 rfl) ?_
    refine va_get (D := D) (ci := 11) (v := .ref (c 4)) (C := RX11) (T := TX11) (N := 26) hx hb hts in_X11 hown hK hP 0 rfl rfl 4 (by decide) (hts _ q829) (fun _ h9 => h9) rfl dX11_street_53 ?_
    refine lv_iload_n hx hb dX11_street_56 rfl (lv_at hl 1 rfl) ?_
    refine n_iald (v := nI (S.one j)) hx hb hK hP 4 0 rfl rfl (j := j) (by omega) (by decide) (hO.one j (by omega)) dX11_street_57 ?_
    exact n_iret (Qc := fun _ _ _ _ => True) hx hb hr hlocks (by rw [ansStreet, if_pos h0, idx_nI (by omega)]; rfl) dX11_street_58
  by_cases w1 : w = nI 1
  · subst w1
    refine lv_tableIn (off := 48) (tgt := 59) hx hb dX11_street_11 (by decide) (by decide) rfl (by decide) ?_
    refine lv_aload_n hx hb dX11_street_59 rfl (lv_at hl 0 rfl) ?_
    refine va_get (D := D) (ci := 11) (v := .ref (c 5)) (C := RX11) (T := TX11) (N := 26) hx hb hts in_X11 hown hK hP 0 rfl rfl 5 (by decide) (hts _ q830) (fun _ h9 => h9) rfl dX11_street_60 ?_
    refine lv_iload_n hx hb dX11_street_63 rfl (lv_at hl 1 rfl) ?_
    refine n_iald (v := nI (S.oth j)) hx hb hK hP 5 0 rfl rfl (j := j) (by omega) (by decide) (hO.oth j (by omega)) dX11_street_64 ?_
    exact n_iret (Qc := fun _ _ _ _ => True) hx hb hr hlocks (by rw [ansStreet, if_pos h0, idx_nI (by omega)]; rfl) dX11_street_65
  by_cases w2 : w = nI 2
  · subst w2
    refine lv_tableIn (off := 55) (tgt := 66) hx hb dX11_street_11 (by decide) (by decide) rfl (by decide) ?_
    refine lv_aload_n hx hb dX11_street_66 rfl (lv_at hl 0 rfl) ?_
    refine va_get (D := D) (ci := 11) (v := .ref (c 10)) (C := RX11) (T := TX11) (N := 26) hx hb hts in_X11 hown hK hP 0 rfl rfl 16 (by decide) (hts _ q841) (fun _ h9 => h9) rfl dX11_street_67 ?_
    refine lv_iconst (v := nI 1) hx hb dX11_street_70 (by decide) ?_
    refine lv_iload_n hx hb dX11_street_71 rfl (lv_at hl 1 rfl) ?_
    refine n_add hx hb dX11_street_72 ?_
    refine n_iald (v := nI (S.now (1 + j))) hx hb hK hP 10 0 rfl rfl (j := (1 + j)) (by omega) (by decide) (hO.now.seen j (by omega)) dX11_street_73 ?_
    exact n_iret (Qc := fun _ _ _ _ => True) hx hb hr hlocks (by rw [ansStreet, if_pos h0, idx_nI (by omega)]; rfl) dX11_street_74
  by_cases w3 : w = nI 3
  · subst w3
    refine lv_tableIn (off := 64) (tgt := 75) hx hb dX11_street_11 (by decide) (by decide) rfl (by decide) ?_
    refine lv_aload_n hx hb dX11_street_75 rfl (lv_at hl 0 rfl) ?_
    refine va_get (D := D) (ci := 11) (v := .ref (c 10)) (C := RX11) (T := TX11) (N := 26) hx hb hts in_X11 hown hK hP 0 rfl rfl 16 (by decide) (hts _ q841) (fun _ h9 => h9) rfl dX11_street_76 ?_
    refine lv_bipush (v := nI 10) hx hb dX11_street_79 (by decide) ?_
    refine lv_iload_n hx hb dX11_street_81 rfl (lv_at hl 1 rfl) ?_
    refine n_add hx hb dX11_street_82 ?_
    refine n_iald (v := nI (S.now (10 + j))) hx hb hK hP 10 0 rfl rfl (j := (10 + j)) (by omega) (by decide) (hO.now.hidden j (by omega)) dX11_street_83 ?_
    exact n_iret (Qc := fun _ _ _ _ => True) hx hb hr hlocks (by rw [ansStreet, if_pos h0, idx_nI (by omega)]; rfl) dX11_street_84
  by_cases w4 : w = nI 4
  · subst w4
    refine lv_tableIn (off := 74) (tgt := 85) hx hb dX11_street_11 (by decide) (by decide) rfl (by decide) ?_
    refine lv_aload_n hx hb dX11_street_85 rfl (lv_at hl 0 rfl) ?_
    refine va_get (D := D) (ci := 11) (v := .ref (c 10)) (C := RX11) (T := TX11) (N := 26) hx hb hts in_X11 hown hK hP 0 rfl rfl 16 (by decide) (hts _ q841) (fun _ h9 => h9) rfl dX11_street_86 ?_
    refine lv_bipush (v := nI 19) hx hb dX11_street_89 (by decide) ?_
    refine lv_iload_n hx hb dX11_street_91 rfl (lv_at hl 1 rfl) ?_
    refine n_add hx hb dX11_street_92 ?_
    refine n_iald (v := nI (S.now (19 + j))) hx hb hK hP 10 0 rfl rfl (j := (19 + j)) (by omega) (by decide) (hO.now.faked j (by omega)) dX11_street_93 ?_
    exact n_iret (Qc := fun _ _ _ _ => True) hx hb hr hlocks (by rw [ansStreet, if_pos h0, idx_nI (by omega)]; rfl) dX11_street_94
  by_cases w5 : w = nI 5
  · subst w5
    refine lv_tableIn (off := 84) (tgt := 95) hx hb dX11_street_11 (by decide) (by decide) rfl (by decide) ?_
    refine lv_aload_n hx hb dX11_street_95 rfl (lv_at hl 0 rfl) ?_
    refine lv_iload_n hx hb dX11_street_96 rfl (lv_at hl 1 rfl) ?_
    refine va_callR (va_runV (As := [.int (nI j)]) (rest := []) ⟨hx, hb, hml, hown, hts⟩ (m_X11_widthOf l D y c J S hI hO j (by omega)) (cwV 1 hts (lw_V q955 q957 qs37 q65 q958) rfl rfl rfl ⟨rfl, hd_X11_widthOf⟩ ⟨Nat.le_of_ble_eq_true rfl, Nat.le_of_ble_eq_true rfl⟩) (preVR hC hP 11 0 rfl rfl) rfl rfl hl.1 rfl (lv_room (Nat.le_of_ble_eq_true rfl)) dX11_street_97 ⟨Nat.le_of_ble_eq_true rfl, Nat.le_of_ble_eq_true rfl⟩) ?_
    exact n_iret (Qc := fun _ _ _ _ => True) hx hb hr hlocks (by rw [ansStreet, if_pos h0, idx_nI (by omega)]; rfl) dX11_street_100
  by_cases w6 : w = nI 6
  · subst w6
    refine lv_tableIn (off := 90) (tgt := 101) hx hb dX11_street_11 (by decide) (by decide) rfl (by decide) ?_
    refine lv_aload_n hx hb dX11_street_101 rfl (lv_at hl 0 rfl) ?_
    refine lv_iload_n hx hb dX11_street_102 rfl (lv_at hl 1 rfl) ?_
    refine va_callR (va_runV (As := [.int (nI j)]) (rest := []) ⟨hx, hb, hml, hown, hts⟩ (m_X11_livingIn l D y c J S hI hO j (by omega)) (cwV 1 hts (lw_V q959 q961 qs38 q65 q962) rfl rfl rfl ⟨rfl, hd_X11_livingIn⟩ ⟨Nat.le_of_ble_eq_true rfl, Nat.le_of_ble_eq_true rfl⟩) (preVR hC hP 11 0 rfl rfl) rfl rfl hl.1 rfl (lv_room (Nat.le_of_ble_eq_true rfl)) dX11_street_103 ⟨Nat.le_of_ble_eq_true rfl, Nat.le_of_ble_eq_true rfl⟩) ?_
    exact n_iret (Qc := fun _ _ _ _ => True) hx hb hr hlocks (by rw [ansStreet, if_pos h0, idx_nI (by omega)]; rfl) dX11_street_106
  refine lv_tableOut (tgt := 107) hx hb dX11_street_11 (by have q0 := lv_neT w0 (show (nI 0).toInt = 0 from rfl); have q1 := lv_neT w1 (show (nI 1).toInt = 1 from rfl); have q2 := lv_neT w2 (show (nI 2).toInt = 2 from rfl); have q3 := lv_neT w3 (show (nI 3).toInt = 3 from rfl); have q4 := lv_neT w4 (show (nI 4).toInt = 4 from rfl); have q5 := lv_neT w5 (show (nI 5).toInt = 5 from rfl); have q6 := lv_neT w6 (show (nI 6).toInt = 6 from rfl); omega) (by decide) ?_
  refine lv_iconst (v := (-1)) hx hb dX11_street_107 (by decide) ?_
  exact n_iret (Qc := fun _ _ _ _ => True) hx hb hr hlocks (by rw [ansStreet, if_pos h0, if_neg w0, if_neg w1, if_neg w2, if_neg w3, if_neg w4, if_neg w5, if_neg w6]) dX11_street_108
theorem hd_X11_citizen : yX11_citizen.cls ≠ "java/lang/invoke/MethodHandle" ∧ yX11_citizen.cls ≠ "java/lang/invoke/VarHandle" ∧ (parseMethodDescriptor yX11_citizen.desc).map (fun d => d.parameters.length) = some 2 := by decide +kernel
/-- X11_citizen -/
theorem m_X11_citizen (l : Launch) (D : va_G) (y : Nat → ClassId) (c : Nat → Nat) (J : MJ) (S : St) (hI : StOk S) (hO : MOk S J) (v w : Int32) : Met l yX11_citizen (ws_ yX11_citizen cX11_citizen 3 (some .int)) ({ frames := 2, cells := 0, slots := 0, locals := 45 }) (va_Pc [.ref (c 0), .int v, .int w] (WR D y (cellsM y c J))) (QcRead (ansCitizen S v w)) 0 0 (fun _ => False) := by
  refine x_start (by decide) (Nat.le_of_ble_eq_true rfl) ?_
  intro p e s m below meth cd ls hx hb hr hts hml hown hlocks hnm hB hl
  have hC := hB.1
  obtain ⟨⟨hK, hN⟩, hP⟩ := hB
  have hown : s.vm.findClass RX11 = some m.cls := hown
  have hl : lv_has ls 3 [(0, .ref (c 0)), (1, .int v), (2, .int w)] := hl
  have i1 := hI.ppl
  refine lv_aload_n hx hb dX11_citizen_0 rfl (lv_at hl 0 rfl) ?_
  refine lv_iload_n hx hb dX11_citizen_1 rfl (lv_at hl 1 rfl) ?_
  refine va_callR (va_runV (As := [.int v]) (rest := []) ⟨hx, hb, hml, hown, hts⟩ (m_X11_isPerson l D y c J S hI hO v) (cwV 1 hts (lw_V q967 q969 qs39 q65 q970) rfl rfl rfl ⟨rfl, hd_X11_isPerson⟩ ⟨Nat.le_of_ble_eq_true rfl, Nat.le_of_ble_eq_true rfl⟩) (preVR hC hP 11 0 rfl rfl) rfl rfl hl.1 rfl (lv_room (Nat.le_of_ble_eq_true rfl)) dX11_citizen_2 ⟨Nat.le_of_ble_eq_true rfl, Nat.le_of_ble_eq_true rfl⟩) ?_
  refine z_if_ne (tgt := 10) hx hb dX11_citizen_5 (by decide) (fun h1 => ?_) (fun h1 => ?_)
  rotate_left
  · refine lv_iconst (v := (-1)) hx hb dX11_citizen_8 (by decide) ?_
    exact n_iret (Qc := fun _ _ _ _ => True) hx hb hr hlocks (by rw [ansCitizen, if_neg (bnf h1)]) dX11_citizen_9
  have h0 := h1
  obtain ⟨j, hj, rfl⟩ := ixI_of h1
  refine lv_iload_n hx hb dX11_citizen_10 rfl (lv_at hl 2 rfl) ?_
  by_cases w0 : w = nI 0
  · subst w0
    refine lv_tableIn (off := 25) (tgt := 36) hx hb dX11_citizen_11 (by decide) (by decide) rfl (by decide) ?_
    refine lv_aload_n hx hb dX11_citizen_36 rfl (lv_at hl 0 rfl) ?_
    refine va_get (D := D) (ci := 11) (v := .ref (c 10)) (C := RX11) (T := TX11) (N := 26) hx hb hts in_X11 hown hK hP 0 rfl rfl 16 (by decide) (hts _ q841) (fun _ h9 => h9) rfl dX11_citizen_37 ?_
    refine lv_bipush (v := nI 28) hx hb dX11_citizen_40 (by decide) ?_
    refine lv_iload_n hx hb dX11_citizen_42 rfl (lv_at hl 1 rfl) ?_
    refine n_add hx hb dX11_citizen_43 ?_
    refine n_iald (v := nI (S.now (28 + j))) hx hb hK hP 10 0 rfl rfl (j := (28 + j)) (by omega) (by decide) (hO.now.home j (by omega)) dX11_citizen_44 ?_
    exact n_iret (Qc := fun _ _ _ _ => True) hx hb hr hlocks (by rw [ansCitizen, if_pos h0, idx_nI (by omega)]; rfl) dX11_citizen_45
  by_cases w1 : w = nI 1
  · subst w1
    refine lv_tableIn (off := 35) (tgt := 46) hx hb dX11_citizen_11 (by decide) (by decide) rfl (by decide) ?_
    refine lv_aload_n hx hb dX11_citizen_46 rfl (lv_at hl 0 rfl) ?_
    refine va_get (D := D) (ci := 11) (v := .ref (c 9)) (C := RX11) (T := TX11) (N := 26) hx hb hts in_X11 hown hK hP 0 rfl rfl 9 (by decide) (hts _ q834) (fun _ h9 => h9) rfl dX11_citizen_47 ?_
    refine lv_iload_n hx hb dX11_citizen_50 rfl (lv_at hl 1 rfl) ?_
    refine n_iald (v := nI (S.wnt j)) hx hb hK hP 9 0 rfl rfl (j := j) (by omega) (by decide) (hO.wnt j (by omega)) dX11_citizen_51 ?_
    exact n_iret (Qc := fun _ _ _ _ => True) hx hb hr hlocks (by rw [ansCitizen, if_pos h0, idx_nI (by omega)]; rfl) dX11_citizen_52
  by_cases w2 : w = nI 2
  · subst w2
    refine lv_tableIn (off := 42) (tgt := 53) hx hb dX11_citizen_11 (by decide) (by decide) rfl (by decide) ?_
    refine lv_aload_n hx hb dX11_citizen_53 rfl (lv_at hl 0 rfl) ?_
    refine lv_iload_n hx hb dX11_citizen_54 rfl (lv_at hl 1 rfl) ?_
    refine va_callR (va_runV (As := [.int (nI j)]) (rest := []) ⟨hx, hb, hml, hown, hts⟩ (m_X11_witnesses l D y c J S hI hO j (by omega)) (cwV 1 hts (lw_V q971 q973 qs40 q65 q974) rfl rfl rfl ⟨rfl, hd_X11_witnesses⟩ ⟨Nat.le_of_ble_eq_true rfl, Nat.le_of_ble_eq_true rfl⟩) (preVR hC hP 11 0 rfl rfl) rfl rfl hl.1 rfl (lv_room (Nat.le_of_ble_eq_true rfl)) dX11_citizen_55 ⟨Nat.le_of_ble_eq_true rfl, Nat.le_of_ble_eq_true rfl⟩) ?_
    exact n_iret (Qc := fun _ _ _ _ => True) hx hb hr hlocks (by rw [ansCitizen, if_pos h0, idx_nI (by omega)]; rfl) dX11_citizen_58
  refine lv_tableOut (tgt := 59) hx hb dX11_citizen_11 (by have q0 := lv_neT w0 (show (nI 0).toInt = 0 from rfl); have q1 := lv_neT w1 (show (nI 1).toInt = 1 from rfl); have q2 := lv_neT w2 (show (nI 2).toInt = 2 from rfl); omega) (by decide) ?_
  refine lv_iconst (v := (-1)) hx hb dX11_citizen_59 (by decide) ?_
  exact n_iret (Qc := fun _ _ _ _ => True) hx hb hr hlocks (by rw [ansCitizen, if_pos h0, if_neg w0, if_neg w1, if_neg w2]) dX11_citizen_60
theorem hd_X11_now : yX11_now.cls ≠ "java/lang/invoke/MethodHandle" ∧ yX11_now.cls ≠ "java/lang/invoke/VarHandle" ∧ (parseMethodDescriptor yX11_now.desc).map (fun d => d.parameters.length) = some 1 := by decide +kernel
/-- X11_now -/
theorem m_X11_now (l : Launch) (D : va_G) (y : Nat → ClassId) (c : Nat → Nat) (J : MJ) (S : St) (hI : StOk S) (hO : MOk S J) (w : Int32) : Met l yX11_now (ws_ yX11_now cX11_now 4 (some .int)) ({ frames := 2, cells := 0, slots := 0, locals := 45 }) (va_Pc [.ref (c 0), .int w] (WR D y (cellsM y c J))) (QcRead (ansNow S w)) 0 0 (fun _ => False) := by
  refine x_start (by decide) (Nat.le_of_ble_eq_true rfl) ?_
  intro p e s m below meth cd ls hx hb hr hts hml hown hlocks hnm hB hl
  have hC := hB.1
  obtain ⟨⟨hK, hN⟩, hP⟩ := hB
  have hown : s.vm.findClass RX11 = some m.cls := hown
  have hl : lv_has ls 4 [(0, .ref (c 0)), (1, .int w)] := hl
  have i1 := hI.str
  refine lv_iconst (v := nI 0) hx hb dX11_now_0 (by decide) ?_
  refine lv_istore_n (lv' := [(2, .int (nI 0)), (0, .ref (c 0)), (1, .int w)]) hx hb dX11_now_1 rfl hl (by decide) rfl (fun ls hl => ?_)
  refine lv_iload_n hx hb dX11_now_2 rfl (lv_at hl 2 rfl) ?_
  by_cases w0 : w = nI 0
  · subst w0
    refine lv_tableIn (off := 25) (tgt := 28) hx hb dX11_now_3 (by decide) (by decide) rfl (by decide) ?_
    refine lv_aload_n hx hb dX11_now_28 rfl (lv_at hl 1 rfl) ?_
    refine va_get (D := D) (ci := 11) (v := .ref (c 10)) (C := RX11) (T := TX11) (N := 26) hx hb hts in_X11 hown hK hP 0 rfl rfl 16 (by decide) (hts _ q841) (fun _ h9 => h9) rfl dX11_now_29 ?_
    refine lv_iconst (v := nI 0) hx hb dX11_now_32 (by decide) ?_
    refine n_iald (v := nI (S.now 0)) hx hb hK hP 10 0 rfl rfl (j := 0) (by omega) (by decide) (hO.now.night) dX11_now_33 ?_
    exact n_iret (Qc := fun _ _ _ _ => True) hx hb hr hlocks (by rfl) dX11_now_34
  by_cases w1 : w = nI 1
  · subst w1
    refine lv_tableIn (off := 32) (tgt := 35) hx hb dX11_now_3 (by decide) (by decide) rfl (by decide) ?_
    refine lv_aload_n hx hb dX11_now_35 rfl (lv_at hl 1 rfl) ?_
    refine va_callR (va_runV (As := []) (rest := []) ⟨hx, hb, hml, hown, hts⟩ (m_X11_allWidths l D y c J S hI hO) (cwV 0 hts (lw_V q1002 q1004 qs43 q65 q1005) rfl rfl rfl ⟨rfl, hd_X11_allWidths⟩ ⟨Nat.le_of_ble_eq_true rfl, Nat.le_of_ble_eq_true rfl⟩) (preVR hC hP 11 0 rfl rfl) rfl rfl hl.1 rfl (lv_room (Nat.le_of_ble_eq_true rfl)) dX11_now_36 ⟨Nat.le_of_ble_eq_true rfl, Nat.le_of_ble_eq_true rfl⟩) ?_
    exact n_iret (Qc := fun _ _ _ _ => True) hx hb hr hlocks (by rfl) dX11_now_39
  by_cases w2 : w = nI 2
  · subst w2
    refine lv_tableIn (off := 37) (tgt := 40) hx hb dX11_now_3 (by decide) (by decide) rfl (by decide) ?_
    refine lv_iconst (v := nI 0) hx hb dX11_now_40 (by decide) ?_
    refine lv_istore_n (lv' := [(3, .int (nI 0)), (2, .int (nI 0)), (0, .ref (c 0)), (1, .int (nI 2))]) hx hb dX11_now_41 rfl hl (by decide) rfl (fun ls hl => ?_)
    refine w_loop (nL := 4) 42 (fun i => [(0, .ref (c 0)), (2, .int (nI (hidF S i))), (3, .int (nI i))]) (fun i => i ≤ S.str) (fun i => S.str - i) ?_ 0 (Nat.zero_le _) ls (lv_sub hl [2, 1, 0] rfl)
    rintro i hi ih ls hl
    have hl : lv_has ls 4 [(0, .ref (c 0)), (2, .int (nI (hidF S i))), (3, .int (nI i))] := hl
    refine lv_iload_n hx hb dX11_now_42 rfl (lv_at hl 2 rfl) ?_
    refine lv_aload_n hx hb dX11_now_43 rfl (lv_at hl 0 rfl) ?_
    refine va_get (D := D) (ci := 11) (v := .ref (c 3)) (C := RX11) (T := TX11) (N := 26) hx hb hts in_X11 hown hK hP 0 rfl rfl 3 (by decide) (hts _ q828) (fun _ h9 => h9) rfl dX11_now_44 ?_
    refine lv_iconst (v := nI 0) hx hb dX11_now_47 (by decide) ?_
    refine n_iald (v := nI S.str) hx hb hK hP 3 0 rfl rfl (j := 0) (by omega) (by decide) (hO.str) dX11_now_48 ?_
    refine n_icmp_ge (tgt := 78) hx hb dX11_now_49 (by decide) (by omega) (by omega) (fun h1 => ?_) (fun h1 => ?_)
    · refine lv_iload_n hx hb dX11_now_78 rfl (lv_at hl 1 rfl) ?_
      exact n_iret (Qc := fun _ _ _ _ => True) hx hb hr hlocks (by rw [show i = S.str by omega]; rfl) dX11_now_79
    have h2 := hI.now.hidden i (by omega)
    refine n_cut 70 [.int (nI (if 0 < S.now (10 + i) then 1 else 0)), .int (nI (hidF S i))] (fun K => ?_) ?_
    · refine lv_iload_n hx hb dX11_now_52 rfl (lv_at hl 1 rfl) ?_
      refine lv_aload_n hx hb dX11_now_53 rfl (lv_at hl 0 rfl) ?_
      refine va_get (D := D) (ci := 11) (v := .ref (c 10)) (C := RX11) (T := TX11) (N := 26) hx hb hts in_X11 hown hK hP 0 rfl rfl 16 (by decide) (hts _ q841) (fun _ h9 => h9) rfl dX11_now_54 ?_
      refine lv_bipush (v := nI 10) hx hb dX11_now_57 (by decide) ?_
      refine lv_iload_n hx hb dX11_now_59 rfl (lv_at hl 2 rfl) ?_
      refine n_add hx hb dX11_now_60 ?_
      refine n_iald (v := nI (S.now (10 + i))) hx hb hK hP 10 0 rfl rfl (j := (10 + i)) (by omega) (by decide) (hO.now.hidden i (by omega)) dX11_now_61 ?_
      refine n_if_le (tgt := 69) hx hb dX11_now_62 (by decide) (by omega) (fun h3 => ?_) (fun h3 => ?_)
      · refine lv_iconst (v := nI 0) hx hb dX11_now_69 (by decide) ?_
        exact n_top (by rw [if_neg (by omega)]) K
      refine lv_iconst (v := nI 1) hx hb dX11_now_65 (by decide) ?_
      refine lv_goto (tgt := 70) hx hb dX11_now_66 (by decide) ?_
      exact n_top (by rw [if_pos h3]) K
    refine n_add hx hb dX11_now_70 ?_
    refine lv_istore_n (lv' := [(2, .int (nI (hidF S i + (if 0 < S.now (10 + i) then 1 else 0)))), (0, .ref (c 0)), (3, .int (nI i))]) hx hb dX11_now_71 rfl hl (by decide) rfl (fun ls hl => ?_)
    refine lv_iinc (v := nI (i + 1)) (lv' := [(3, .int (nI (i + 1))), (2, .int (nI (hidF S i + (if 0 < S.now (10 + i) then 1 else 0)))), (0, .ref (c 0))]) hx hb dX11_now_72 hl (k := 2) rfl (nI_inc _) (by decide) rfl (fun ls hl => ?_)
    refine lv_goto (tgt := 42) hx hb dX11_now_75 (by decide) ?_
    exact ih (i + 1) (by omega) (by omega) ls (lv_sub hl [2, 1, 0] rfl)
  refine lv_tableOut (tgt := 80) hx hb dX11_now_3 (by have q0 := lv_neT w0 (show (nI 0).toInt = 0 from rfl); have q1 := lv_neT w1 (show (nI 1).toInt = 1 from rfl); have q2 := lv_neT w2 (show (nI 2).toInt = 2 from rfl); omega) (by decide) ?_
  refine lv_iconst (v := (-1)) hx hb dX11_now_80 (by decide) ?_
  exact n_iret (Qc := fun _ _ _ _ => True) hx hb hr hlocks (by rw [ansNow, if_neg w0, if_neg w1, if_neg w2]) dX11_now_81
