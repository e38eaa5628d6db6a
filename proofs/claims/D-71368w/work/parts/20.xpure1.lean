/-! component: methods that only read, 1 -/
set_option maxRecDepth 100000
theorem hd_X0_isIn : yX0_isIn.cls ≠ "java/lang/invoke/MethodHandle" ∧ yX0_isIn.cls ≠ "java/lang/invoke/VarHandle" ∧ (parseMethodDescriptor yX0_isIn.desc).map (fun d => d.parameters.length) = some 3 := by decide +kernel
/-- X0_isIn -/
theorem m_X0_isIn (l : Launch) (v a b : Int32) : Met l yX0_isIn (ws_ yX0_isIn cX0_isIn 3 (some .boolean)) ({ frames := 0, cells := 0, slots := 0, locals := 0 }) (va_Pc [.int v, .int a, .int b] (fun _ => True)) (QcRead (zb (inI v a b))) 0 0 (fun _ => False) := by
  refine x_start (by decide) (Nat.le_of_ble_eq_true rfl) ?_
  intro p e s m below meth cd ls hx hb hr hts hml hown hlocks hnm hB hl
  have hown : s.vm.findClass RX0 = some m.cls := hown
  have hl : lv_has ls 3 [(0, .int v), (1, .int a), (2, .int b)] := hl
  refine n_cut 15 [.int (zb (inI v a b))] (fun K => ?_) ?_
  · refine lv_iload_n hx hb dX0_isIn_0 rfl (lv_at hl 0 rfl) ?_
    refine lv_iload_n hx hb dX0_isIn_1 rfl (lv_at hl 1 rfl) ?_
    refine lv_icmp_lt (tgt := 14) hx hb dX0_isIn_2 (by decide) (fun h1 => ?_) (fun h1 => ?_)
    · refine lv_iconst (v := nI 0) hx hb dX0_isIn_14 (by decide) ?_
      exact n_top (by simp [inI, zb, nI_0, Int32.not_le.mpr h1]) K
    refine lv_iload_n hx hb dX0_isIn_5 rfl (lv_at hl 0 rfl) ?_
    refine lv_iload_n hx hb dX0_isIn_6 rfl (lv_at hl 2 rfl) ?_
    refine lv_icmp_gt (tgt := 14) hx hb dX0_isIn_7 (by decide) (fun h2 => ?_) (fun h2 => ?_)
    · refine lv_iconst (v := nI 0) hx hb dX0_isIn_14 (by decide) ?_
      exact n_top (by simp [inI, zb, nI_0, Int32.not_le.mpr h2]) K
    refine lv_iconst (v := nI 1) hx hb dX0_isIn_10 (by decide) ?_
    refine lv_goto (tgt := 15) hx hb dX0_isIn_11 (by decide) ?_
    exact n_top (by rw [Int32.not_lt] at h1 h2; simp [inI, zb, h1, h2]; decide) K
  exact n_zret (Qc := fun _ _ _ _ => True) hx hb hr hlocks (rfl) dX0_isIn_15
theorem hd_X0_has : yX0_has.cls ≠ "java/lang/invoke/MethodHandle" ∧ yX0_has.cls ≠ "java/lang/invoke/VarHandle" ∧ (parseMethodDescriptor yX0_has.desc).map (fun d => d.parameters.length) = some 2 := by decide +kernel
/-- X0_has -/
theorem m_X0_has (l : Launch) (a j : Nat) (ha : a < 2147483648) (hj : j < 32) : Met l yX0_has (ws_ yX0_has cX0_has 2 (some .boolean)) ({ frames := 0, cells := 0, slots := 0, locals := 0 }) (va_Pc [.int (nI a), .int (nI j)] (fun _ => True)) (QcRead (zb (a.testBit j))) 0 0 (fun _ => False) := by
  refine x_start (by decide) (Nat.le_of_ble_eq_true rfl) ?_
  intro p e s m below meth cd ls hx hb hr hts hml hown hlocks hnm hB hl
  have hown : s.vm.findClass RX0 = some m.cls := hown
  have hl : lv_has ls 2 [(0, .int (nI a)), (1, .int (nI j))] := hl
  have h9 : a / 2 ^ j &&& 1 < 2147483648 := Nat.lt_of_le_of_lt Nat.and_le_right (by omega)
  refine n_cut 14 [.int (zb (a.testBit j))] (fun K => ?_) ?_
  · refine lv_iload_n hx hb dX0_has_0 rfl (lv_at hl 0 rfl) ?_
    refine lv_iload_n hx hb dX0_has_1 rfl (lv_at hl 1 rfl) ?_
    refine n_shr hx hb dX0_has_2 (by omega) (by omega) ?_
    refine lv_iconst (v := nI 1) hx hb dX0_has_3 (by decide) ?_
    refine n_and hx hb dX0_has_4 ?_
    refine lv_iconst (v := nI 1) hx hb dX0_has_5 (by decide) ?_
    refine n_icmp_ne (tgt := 13) hx hb dX0_has_6 (by decide) (by omega) (by omega) (fun h1 => ?_) (fun h1 => ?_)
    · refine lv_iconst (v := nI 0) hx hb dX0_has_13 (by decide) ?_
      exact n_top (by rw [show a.testBit j = false from Bool.eq_false_iff.mpr (fun q => h1 (tb_iff.mpr q))]; decide) K
    refine lv_iconst (v := nI 1) hx hb dX0_has_9 (by decide) ?_
    refine lv_goto (tgt := 14) hx hb dX0_has_10 (by decide) ?_
    exact n_top (by rw [tb_iff.mp h1]; decide) K
  exact n_zret (Qc := fun _ _ _ _ => True) hx hb hr hlocks (rfl) dX0_has_14
theorem hd_X0_isBit : yX0_isBit.cls ≠ "java/lang/invoke/MethodHandle" ∧ yX0_isBit.cls ≠ "java/lang/invoke/VarHandle" ∧ (parseMethodDescriptor yX0_isBit.desc).map (fun d => d.parameters.length) = some 1 := by decide +kernel
/-- X0_isBit -/
theorem m_X0_isBit (l : Launch) (v : Int32) : Met l yX0_isBit (ws_ yX0_isBit cX0_isBit 1 (some .boolean)) ({ frames := 1, cells := 0, slots := 0, locals := 22 }) (va_Pc [.int v] (fun _ => True)) (QcRead (zb (inI v (nI 0) (nI 1)))) 0 0 (fun _ => False) := by
  refine x_start (by decide) (Nat.le_of_ble_eq_true rfl) ?_
  intro p e s m below meth cd ls hx hb hr hts hml hown hlocks hnm hB hl
  have hown : s.vm.findClass RX0 = some m.cls := hown
  have hl : lv_has ls 1 [(0, .int v)] := hl
  refine lv_iload_n hx hb dX0_isBit_0 rfl (lv_at hl 0 rfl) ?_
  refine lv_iconst (v := nI 0) hx hb dX0_isBit_1 (by decide) ?_
  refine lv_iconst (v := nI 1) hx hb dX0_isBit_2 (by decide) ?_
  refine va_callR (va_runS (As := [.int v, .int (nI 0), .int (nI 1)]) (rest := []) ⟨hx, hb, hml, hown, hts⟩ (m_X0_isIn l v (nI 0) (nI 1)) (va_cwS 3 hts (lw_S q81 q82 q54 q83) rfl rfl rfl hd_X0_isIn ⟨Nat.le_of_ble_eq_true rfl, Nat.le_of_ble_eq_true rfl⟩) pre0 rfl rfl hl.1 rfl (lv_room (Nat.le_of_ble_eq_true rfl)) dX0_isBit_3 ⟨Nat.le_of_ble_eq_true rfl, Nat.le_of_ble_eq_true rfl⟩) ?_
  exact n_zret (Qc := fun _ _ _ _ => True) hx hb hr hlocks (rfl) dX0_isBit_6
theorem hd_X0_isWidth : yX0_isWidth.cls ≠ "java/lang/invoke/MethodHandle" ∧ yX0_isWidth.cls ≠ "java/lang/invoke/VarHandle" ∧ (parseMethodDescriptor yX0_isWidth.desc).map (fun d => d.parameters.length) = some 1 := by decide +kernel
/-- X0_isWidth -/
theorem m_X0_isWidth (l : Launch) (v : Int32) : Met l yX0_isWidth (ws_ yX0_isWidth cX0_isWidth 1 (some .boolean)) ({ frames := 1, cells := 0, slots := 0, locals := 22 }) (va_Pc [.int v] (fun _ => True)) (QcRead (zb (inI v (nI 1) (nI 10)))) 0 0 (fun _ => False) := by
  refine x_start (by decide) (Nat.le_of_ble_eq_true rfl) ?_
  intro p e s m below meth cd ls hx hb hr hts hml hown hlocks hnm hB hl
  have hown : s.vm.findClass RX0 = some m.cls := hown
  have hl : lv_has ls 1 [(0, .int v)] := hl
  refine lv_iload_n hx hb dX0_isWidth_0 rfl (lv_at hl 0 rfl) ?_
  refine lv_iconst (v := nI 1) hx hb dX0_isWidth_1 (by decide) ?_
  refine lv_bipush (v := nI 10) hx hb dX0_isWidth_2 (by decide) ?_
  refine va_callR (va_runS (As := [.int v, .int (nI 1), .int (nI 10)]) (rest := []) ⟨hx, hb, hml, hown, hts⟩ (m_X0_isIn l v (nI 1) (nI 10)) (va_cwS 3 hts (lw_S q81 q82 q54 q83) rfl rfl rfl hd_X0_isIn ⟨Nat.le_of_ble_eq_true rfl, Nat.le_of_ble_eq_true rfl⟩) pre0 rfl rfl hl.1 rfl (lv_room (Nat.le_of_ble_eq_true rfl)) dX0_isWidth_4 ⟨Nat.le_of_ble_eq_true rfl, Nat.le_of_ble_eq_true rfl⟩) ?_
  exact n_zret (Qc := fun _ _ _ _ => True) hx hb hr hlocks (rfl) dX0_isWidth_7
theorem hd_X3_width : yX3_width.cls ≠ "java/lang/invoke/MethodHandle" ∧ yX3_width.cls ≠ "java/lang/invoke/VarHandle" ∧ (parseMethodDescriptor yX3_width.desc).map (fun d => d.parameters.length) = some 1 := by decide +kernel
/-- X3_width -/
theorem m_X3_width (l : Launch) (D : va_G) (y : Nat → ClassId) (c : Nat → Nat) (J : XJ) (S : St) (hI : StOk S) (hO : XOk S J) (j : Nat) (hj : j < S.str) : Met l yX3_width (ws_ yX3_width cX3_width 2 (some .int)) ({ frames := 1, cells := 0, slots := 0, locals := 21 }) (va_Pc [.ref (c 7), .int (nI j)] (WR D y (cellsX y c J))) (QcRead (nI (wid S.now j))) 0 0 (fun _ => False) := by
  refine x_start (by decide) (Nat.le_of_ble_eq_true rfl) ?_
  intro p e s m below meth cd ls hx hb hr hts hml hown hlocks hnm hB hl
  have hC := hB.1
  obtain ⟨⟨hK, hN⟩, hP⟩ := hB
  have hown : s.vm.findClass RX3 = some m.cls := hown
  have hl : lv_has ls 2 [(0, .ref (c 7)), (1, .int (nI j))] := hl
  have i1 := hI.now.seen j hj
  have i2 := hI.now.faked j hj
  have i3 := hI.now.night
  have i4 := hI.str
  refine lv_iconst (v := nI 1) hx hb dX3_width_0 (by decide) ?_
  refine lv_aload_n hx hb dX3_width_1 rfl (lv_at hl 0 rfl) ?_
  refine va_get (D := D) (ci := 3) (v := .int (nI (S.now 0))) (C := RX3) (T := TX3) (N := 5) hx hb hts in_X3 hown hK hP 7 rfl rfl 4 (by decide) (hts _ q402) (fun _ h9 => h9) (sv hO.now.night) dX3_width_2 ?_
  refine n_cut 32 [.int (nI (if S.now 0 = 0 then max (S.now (1 + j)) (S.now (19 + j)) else S.now (1 + j))), .int (nI 1)] (fun K => ?_) ?_
  · refine n_if_eq (tgt := 17) hx hb dX3_width_5 (by decide) (by omega) (fun h1 => ?_) (fun h1 => ?_)
    · refine lv_aload_n hx hb dX3_width_17 rfl (lv_at hl 0 rfl) ?_
      refine va_get (D := D) (ci := 3) (v := .ref (c 8)) (C := RX3) (T := TX3) (N := 5) hx hb hts in_X3 hown hK hP 7 rfl rfl 0 (by decide) (hts _ q393) (fun _ h9 => h9) rfl dX3_width_18 ?_
      refine lv_iload_n hx hb dX3_width_21 rfl (lv_at hl 1 rfl) ?_
      refine n_bald (v := nI (S.now (1 + j))) hx hb hK hP 8 1 rfl rfl (j := j) (by omega) (by decide) (hO.now.seen j (by omega)) dX3_width_22 ?_
      refine lv_aload_n hx hb dX3_width_23 rfl (lv_at hl 0 rfl) ?_
      refine va_get (D := D) (ci := 3) (v := .ref (c 10)) (C := RX3) (T := TX3) (N := 5) hx hb hts in_X3 hown hK hP 7 rfl rfl 2 (by decide) (hts _ q398) (fun _ h9 => h9) rfl dX3_width_24 ?_
      refine lv_iload_n hx hb dX3_width_27 rfl (lv_at hl 1 rfl) ?_
      refine n_bald (v := nI (S.now (19 + j))) hx hb hK hP 10 1 rfl rfl (j := j) (by omega) (by decide) (hO.now.faked j (by omega)) dX3_width_28 ?_
      refine va_mmax hx hb (hml.trans hl.1.symm) hown (hts _ q567) (hts _ q141) (hts _ q68) (hts _ q142) (Nat.le_of_ble_eq_true rfl) (Nat.le_of_ble_eq_true rfl) (Nat.le_of_ble_eq_true rfl) (Nat.le_of_ble_eq_true rfl) dX3_width_29 ?_
      refine n_top (y := nI (max (S.now (1 + j)) (S.now (19 + j)))) (nI_max (by omega) (by omega)) ?_
      exact n_top (by rw [if_pos h1]) K
    refine lv_aload_n hx hb dX3_width_8 rfl (lv_at hl 0 rfl) ?_
    refine va_get (D := D) (ci := 3) (v := .ref (c 8)) (C := RX3) (T := TX3) (N := 5) hx hb hts in_X3 hown hK hP 7 rfl rfl 0 (by decide) (hts _ q393) (fun _ h9 => h9) rfl dX3_width_9 ?_
    refine lv_iload_n hx hb dX3_width_12 rfl (lv_at hl 1 rfl) ?_
    refine n_bald (v := nI (S.now (1 + j))) hx hb hK hP 8 1 rfl rfl (j := j) (by omega) (by decide) (hO.now.seen j (by omega)) dX3_width_13 ?_
    refine lv_goto (tgt := 32) hx hb dX3_width_14 (by decide) ?_
    exact n_top (by rw [if_neg h1]) K
  refine n_add hx hb dX3_width_32 ?_
  exact n_iret (Qc := fun _ _ _ _ => True) hx hb hr hlocks (rfl) dX3_width_33
theorem hd_X3_living : yX3_living.cls ≠ "java/lang/invoke/MethodHandle" ∧ yX3_living.cls ≠ "java/lang/invoke/VarHandle" ∧ (parseMethodDescriptor yX3_living.desc).map (fun d => d.parameters.length) = some 2 := by decide +kernel
/-- X3_living -/
theorem m_X3_living (l : Launch) (D : va_G) (y : Nat → ClassId) (c : Nat → Nat) (J : XJ) (S : St) (hI : StOk S) (hO : XOk S J) (j : Nat) (hj : j < S.str) : Met l yX3_living (ws_ yX3_living cX3_living 5 (some .int)) ({ frames := 0, cells := 0, slots := 0, locals := 0 }) (va_Pc [.ref (c 7), .ref (c 1), .int (nI j)] (WR D y (cellsX y c J))) (QcRead (nI (livF S.now j S.ppl))) 0 0 (fun _ => False) := by
  refine x_start (by decide) (Nat.le_of_ble_eq_true rfl) ?_
  intro p e s m below meth cd ls hx hb hr hts hml hown hlocks hnm hB hl
  have hC := hB.1
  obtain ⟨⟨hK, hN⟩, hP⟩ := hB
  have hown : s.vm.findClass RX3 = some m.cls := hown
  have hl : lv_has ls 5 [(0, .ref (c 7)), (1, .ref (c 1)), (2, .int (nI j))] := hl
  have i1 := hI.str
  have i2 := hI.ppl
  refine lv_iconst (v := nI 0) hx hb dX3_living_0 (by decide) ?_
  refine lv_istore_n (lv' := [(3, .int (nI 0)), (0, .ref (c 7)), (1, .ref (c 1)), (2, .int (nI j))]) hx hb dX3_living_1 rfl hl (by decide) rfl (fun ls hl => ?_)
  refine lv_iconst (v := nI 0) hx hb dX3_living_2 (by decide) ?_
  refine lv_istore (lv' := [(4, .int (nI 0)), (3, .int (nI 0)), (0, .ref (c 7)), (1, .ref (c 1)), (2, .int (nI j))]) hx hb dX3_living_3 hl (by decide) rfl (fun ls hl => ?_)
  refine w_loop (nL := 5) 5 (fun i => [(0, .ref (c 7)), (1, .ref (c 1)), (2, .int (nI j)), (3, .int (nI (livF S.now j i))), (4, .int (nI i))]) (fun i => i ≤ S.ppl) (fun i => S.ppl - i) ?_ 0 (Nat.zero_le _) ls (lv_sub hl [2, 3, 4, 1, 0] rfl)
  rintro i hi ih ls hl
  have hl : lv_has ls 5 [(0, .ref (c 7)), (1, .ref (c 1)), (2, .int (nI j)), (3, .int (nI (livF S.now j i))), (4, .int (nI i))] := hl
  refine lv_iload hx hb dX3_living_5 (lv_at hl 4 rfl) ?_
  refine lv_aload_n hx hb dX3_living_7 rfl (lv_at hl 1 rfl) ?_
  refine va_getN (D := D) (ci := 1) (v := .int (nI S.ppl)) (C := RX1) (T := TX1) (N := 8) hx hb hts in_X1 hown hK hP 1 rfl rfl 5 (by decide) (va_Nw.use rfl (hN _ q333 rfl)) (fun _ h9 => h9) (sv hO.ppl) dX3_living_8 ?_
  refine n_icmp_ge (tgt := 42) hx hb dX3_living_11 (by decide) (by omega) (by omega) (fun h1 => ?_) (fun h1 => ?_)
  · refine lv_iload_n hx hb dX3_living_42 rfl (lv_at hl 3 rfl) ?_
    exact n_iret (Qc := fun _ _ _ _ => True) hx hb hr hlocks (by rw [show i = S.ppl by omega]) dX3_living_43
  have h2 := hI.now.home i (by omega)
  refine lv_iload_n hx hb dX3_living_14 rfl (lv_at hl 3 rfl) ?_
  refine lv_aload_n hx hb dX3_living_15 rfl (lv_at hl 0 rfl) ?_
  refine va_get (D := D) (ci := 3) (v := .ref (c 11)) (C := RX3) (T := TX3) (N := 5) hx hb hts in_X3 hown hK hP 7 rfl rfl 3 (by decide) (hts _ q400) (fun _ h9 => h9) rfl dX3_living_16 ?_
  refine lv_iload hx hb dX3_living_19 (lv_at hl 4 rfl) ?_
  refine n_iald (v := nI (S.now (28 + i))) hx hb hK hP 11 0 rfl rfl (j := i) (by omega) (by decide) (hO.now.home i (by omega)) dX3_living_21 ?_
  refine lv_iload_n hx hb dX3_living_22 rfl (lv_at hl 2 rfl) ?_
  refine n_cut 34 [.int (nI (if S.now (28 + i) = j then 2 ^ i else 0)), .int (nI (livF S.now j i))] (fun K => ?_) ?_
  · refine n_icmp_ne (tgt := 33) hx hb dX3_living_23 (by decide) (by omega) (by omega) (fun h3 => ?_) (fun h3 => ?_)
    · refine lv_iconst (v := nI 0) hx hb dX3_living_33 (by decide) ?_
      exact n_top (by rw [if_neg h3]) K
    refine lv_iconst (v := nI 1) hx hb dX3_living_26 (by decide) ?_
    refine lv_iload hx hb dX3_living_27 (lv_at hl 4 rfl) ?_
    refine n_shl1 hx hb dX3_living_29 (by omega) ?_
    refine lv_goto (tgt := 34) hx hb dX3_living_30 (by decide) ?_
    exact n_top (by rw [if_pos h3]) K
  refine n_or hx hb dX3_living_34 ?_
  refine lv_istore_n (lv' := [(3, .int (nI ((livF S.now j i) ||| (if S.now (28 + i) = j then 2 ^ i else 0)))), (0, .ref (c 7)), (1, .ref (c 1)), (2, .int (nI j)), (4, .int (nI i))]) hx hb dX3_living_35 rfl hl (by decide) rfl (fun ls hl => ?_)
  refine lv_iinc (v := nI (i + 1)) (lv' := [(4, .int (nI (i + 1))), (3, .int (nI ((livF S.now j i) ||| (if S.now (28 + i) = j then 2 ^ i else 0)))), (0, .ref (c 7)), (1, .ref (c 1)), (2, .int (nI j))]) hx hb dX3_living_36 hl (k := 4) rfl (nI_inc _) (by decide) rfl (fun ls hl => ?_)
  refine lv_goto (tgt := 5) hx hb dX3_living_39 (by decide) ?_
  exact ih (i + 1) (by omega) (by omega) ls (lv_sub hl [2, 3, 4, 1, 0] rfl)
theorem hd_X1_meet : yX1_meet.cls ≠ "java/lang/invoke/MethodHandle" ∧ yX1_meet.cls ≠ "java/lang/invoke/VarHandle" ∧ (parseMethodDescriptor yX1_meet.desc).map (fun d => d.parameters.length) = some 2 := by decide +kernel
/-- X1_meet -/
theorem m_X1_meet (l : Launch) (D : va_G) (y : Nat → ClassId) (c : Nat → Nat) (J : XJ) (S : St) (hI : StOk S) (hO : XOk S J) (j k : Nat) (hj : j < S.str) (hk : k < S.str) : Met l yX1_meet (ws_ yX1_meet cX1_meet 3 (some .boolean)) ({ frames := 0, cells := 0, slots := 0, locals := 0 }) (va_Pc [.ref (c 1), .int (nI j), .int (nI k)] (WR D y (cellsX y c J))) (QcRead (zb (meetF S j k))) 0 0 (fun _ => False) := by
  refine x_start (by decide) (Nat.le_of_ble_eq_true rfl) ?_
  intro p e s m below meth cd ls hx hb hr hts hml hown hlocks hnm hB hl
  have hC := hB.1
  obtain ⟨⟨hK, hN⟩, hP⟩ := hB
  have hown : s.vm.findClass RX1 = some m.cls := hown
  have hl : lv_has ls 3 [(0, .ref (c 1)), (1, .int (nI j)), (2, .int (nI k))] := hl
  have i0 := hI.yds
  have i1 := hI.one j hj
  have i2 := hI.one k hk
  have i3 := hI.oth j hj
  have i4 := hI.oth k hk
  have i5 := hI.str
  refine n_cut 65 [.int (zb (meetF S j k))] (fun K => ?_) ?_
  · refine lv_aload_n hx hb dX1_meet_0 rfl (lv_at hl 0 rfl) ?_
    refine va_get (D := D) (ci := 1) (v := .ref (c 2)) (C := RX1) (T := TX1) (N := 8) hx hb hts in_X1 hown hK hP 1 rfl rfl 2 (by decide) (hts _ q323) (fun _ h9 => h9) rfl dX1_meet_1 ?_
    refine lv_iload_n hx hb dX1_meet_4 rfl (lv_at hl 1 rfl) ?_
    refine n_iald (v := nI (S.one j)) hx hb hK hP 2 0 rfl rfl (j := j) (by omega) (by decide) (hO.one j (by omega)) dX1_meet_5 ?_
    refine lv_aload_n hx hb dX1_meet_6 rfl (lv_at hl 0 rfl) ?_
    refine va_get (D := D) (ci := 1) (v := .ref (c 2)) (C := RX1) (T := TX1) (N := 8) hx hb hts in_X1 hown hK hP 1 rfl rfl 2 (by decide) (hts _ q323) (fun _ h9 => h9) rfl dX1_meet_7 ?_
    refine lv_iload_n hx hb dX1_meet_10 rfl (lv_at hl 2 rfl) ?_
    refine n_iald (v := nI (S.one k)) hx hb hK hP 2 0 rfl rfl (j := k) (by omega) (by decide) (hO.one k (by omega)) dX1_meet_11 ?_
    refine n_icmp_eq (tgt := 60) hx hb dX1_meet_12 (by decide) (by omega) (by omega) (fun h1 => ?_) (fun h1 => ?_)
    · refine lv_iconst (v := nI 1) hx hb dX1_meet_60 (by decide) ?_
      refine lv_goto (tgt := 65) hx hb dX1_meet_61 (by decide) ?_
      exact n_top (by rw [show meetF S j k = true by simp [meetF, h1]]; decide) K
    refine lv_aload_n hx hb dX1_meet_15 rfl (lv_at hl 0 rfl) ?_
    refine va_get (D := D) (ci := 1) (v := .ref (c 2)) (C := RX1) (T := TX1) (N := 8) hx hb hts in_X1 hown hK hP 1 rfl rfl 2 (by decide) (hts _ q323) (fun _ h9 => h9) rfl dX1_meet_16 ?_
    refine lv_iload_n hx hb dX1_meet_19 rfl (lv_at hl 1 rfl) ?_
    refine n_iald (v := nI (S.one j)) hx hb hK hP 2 0 rfl rfl (j := j) (by omega) (by decide) (hO.one j (by omega)) dX1_meet_20 ?_
    refine lv_aload_n hx hb dX1_meet_21 rfl (lv_at hl 0 rfl) ?_
    refine va_get (D := D) (ci := 1) (v := .ref (c 3)) (C := RX1) (T := TX1) (N := 8) hx hb hts in_X1 hown hK hP 1 rfl rfl 3 (by decide) (hts _ q326) (fun _ h9 => h9) rfl dX1_meet_22 ?_
    refine lv_iload_n hx hb dX1_meet_25 rfl (lv_at hl 2 rfl) ?_
    refine n_iald (v := nI (S.oth k)) hx hb hK hP 3 0 rfl rfl (j := k) (by omega) (by decide) (hO.oth k (by omega)) dX1_meet_26 ?_
    refine n_icmp_eq (tgt := 60) hx hb dX1_meet_27 (by decide) (by omega) (by omega) (fun h2 => ?_) (fun h2 => ?_)
    · refine lv_iconst (v := nI 1) hx hb dX1_meet_60 (by decide) ?_
      refine lv_goto (tgt := 65) hx hb dX1_meet_61 (by decide) ?_
      exact n_top (by rw [show meetF S j k = true by simp [meetF, h1, h2]]; decide) K
    refine lv_aload_n hx hb dX1_meet_30 rfl (lv_at hl 0 rfl) ?_
    refine va_get (D := D) (ci := 1) (v := .ref (c 3)) (C := RX1) (T := TX1) (N := 8) hx hb hts in_X1 hown hK hP 1 rfl rfl 3 (by decide) (hts _ q326) (fun _ h9 => h9) rfl dX1_meet_31 ?_
    refine lv_iload_n hx hb dX1_meet_34 rfl (lv_at hl 1 rfl) ?_
    refine n_iald (v := nI (S.oth j)) hx hb hK hP 3 0 rfl rfl (j := j) (by omega) (by decide) (hO.oth j (by omega)) dX1_meet_35 ?_
    refine lv_aload_n hx hb dX1_meet_36 rfl (lv_at hl 0 rfl) ?_
    refine va_get (D := D) (ci := 1) (v := .ref (c 2)) (C := RX1) (T := TX1) (N := 8) hx hb hts in_X1 hown hK hP 1 rfl rfl 2 (by decide) (hts _ q323) (fun _ h9 => h9) rfl dX1_meet_37 ?_
    refine lv_iload_n hx hb dX1_meet_40 rfl (lv_at hl 2 rfl) ?_
    refine n_iald (v := nI (S.one k)) hx hb hK hP 2 0 rfl rfl (j := k) (by omega) (by decide) (hO.one k (by omega)) dX1_meet_41 ?_
    refine n_icmp_eq (tgt := 60) hx hb dX1_meet_42 (by decide) (by omega) (by omega) (fun h3 => ?_) (fun h3 => ?_)
    · refine lv_iconst (v := nI 1) hx hb dX1_meet_60 (by decide) ?_
      refine lv_goto (tgt := 65) hx hb dX1_meet_61 (by decide) ?_
      exact n_top (by rw [show meetF S j k = true by simp [meetF, h1, h2, h3]]; decide) K
    refine lv_aload_n hx hb dX1_meet_45 rfl (lv_at hl 0 rfl) ?_
    refine va_get (D := D) (ci := 1) (v := .ref (c 3)) (C := RX1) (T := TX1) (N := 8) hx hb hts in_X1 hown hK hP 1 rfl rfl 3 (by decide) (hts _ q326) (fun _ h9 => h9) rfl dX1_meet_46 ?_
    refine lv_iload_n hx hb dX1_meet_49 rfl (lv_at hl 1 rfl) ?_
    refine n_iald (v := nI (S.oth j)) hx hb hK hP 3 0 rfl rfl (j := j) (by omega) (by decide) (hO.oth j (by omega)) dX1_meet_50 ?_
    refine lv_aload_n hx hb dX1_meet_51 rfl (lv_at hl 0 rfl) ?_
    refine va_get (D := D) (ci := 1) (v := .ref (c 3)) (C := RX1) (T := TX1) (N := 8) hx hb hts in_X1 hown hK hP 1 rfl rfl 3 (by decide) (hts _ q326) (fun _ h9 => h9) rfl dX1_meet_52 ?_
    refine lv_iload_n hx hb dX1_meet_55 rfl (lv_at hl 2 rfl) ?_
    refine n_iald (v := nI (S.oth k)) hx hb hK hP 3 0 rfl rfl (j := k) (by omega) (by decide) (hO.oth k (by omega)) dX1_meet_56 ?_
    refine n_icmp_ne (tgt := 64) hx hb dX1_meet_57 (by decide) (by omega) (by omega) (fun h4 => ?_) (fun h4 => ?_)
    · refine lv_iconst (v := nI 0) hx hb dX1_meet_64 (by decide) ?_
      exact n_top (by rw [show meetF S j k = false by simp [meetF, h1, h2, h3, h4]]; decide) K
    refine lv_iconst (v := nI 1) hx hb dX1_meet_60 (by decide) ?_
    refine lv_goto (tgt := 65) hx hb dX1_meet_61 (by decide) ?_
    exact n_top (by rw [show meetF S j k = true by simp [meetF, h4]]; decide) K
  exact n_zret (Qc := fun _ _ _ _ => True) hx hb hr hlocks (rfl) dX1_meet_65
