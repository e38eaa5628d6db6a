/-! component: methods that only read, 4 -/
set_option maxRecDepth 100000
theorem hd_X0_widthBy : yX0_widthBy.cls ≠ "java/lang/invoke/MethodHandle" ∧ yX0_widthBy.cls ≠ "java/lang/invoke/VarHandle" ∧ (parseMethodDescriptor yX0_widthBy.desc).map (fun d => d.parameters.length) = some 3 := by decide +kernel
/-- X0_widthBy -/
theorem m_X0_widthBy (l : Launch) (a b t : Nat) (ha : a < 2147483648) (h0b : b < 2147483648) (ht : t < 2147483648) : Met l yX0_widthBy (ws_ yX0_widthBy cX0_widthBy 3 (some .int)) ({ frames := 1, cells := 0, slots := 0, locals := 21 }) (va_Pc [.int (nI a), .int (nI b), .int (nI t)] (fun _ => True)) (QcRead (nI (wby t a b))) 0 0 (fun _ => False) := by
  refine x_start (by decide) (Nat.le_of_ble_eq_true rfl) ?_
  intro p e s m below meth cd ls hx hb hr hts hml hown hlocks hnm hB hl
  have hown : s.vm.findClass RX0 = some m.cls := hown
  have hl : lv_has ls 3 [(0, .int (nI a)), (1, .int (nI b)), (2, .int (nI t))] := hl
  refine lv_iconst (v := nI 1) hx hb dX0_widthBy_0 (by decide) ?_
  refine lv_iload_n hx hb dX0_widthBy_1 rfl (lv_at hl 2 rfl) ?_
  refine n_cut 14 [.int (nI (if t = 0 then max a b else a)), .int (nI 1)] (fun K => ?_) ?_
  · refine n_if_eq (tgt := 9) hx hb dX0_widthBy_2 (by decide) (by omega) (fun h1 => ?_) (fun h1 => ?_)
    · refine lv_iload_n hx hb dX0_widthBy_9 rfl (lv_at hl 0 rfl) ?_
      refine lv_iload_n hx hb dX0_widthBy_10 rfl (lv_at hl 1 rfl) ?_
      refine va_mmax hx hb (hml.trans hl.1.symm) hown (hts _ q613) (hts _ q141) (hts _ q68) (hts _ q142) (Nat.le_of_ble_eq_true rfl) (Nat.le_of_ble_eq_true rfl) (Nat.le_of_ble_eq_true rfl) (Nat.le_of_ble_eq_true rfl) dX0_widthBy_11 ?_
      refine n_top (y := nI (max a b)) (nI_max (by omega) (by omega)) ?_
      exact n_top (by rw [if_pos h1]) K
    refine lv_iload_n hx hb dX0_widthBy_5 rfl (lv_at hl 0 rfl) ?_
    refine lv_goto (tgt := 14) hx hb dX0_widthBy_6 (by decide) ?_
    exact n_top (by rw [if_neg h1]) K
  refine n_add hx hb dX0_widthBy_14 ?_
  exact n_iret (Qc := fun _ _ _ _ => True) hx hb hr hlocks (rfl) dX0_widthBy_15
theorem hd_X0_isAsMeasured : yX0_isAsMeasured.cls ≠ "java/lang/invoke/MethodHandle" ∧ yX0_isAsMeasured.cls ≠ "java/lang/invoke/VarHandle" ∧ (parseMethodDescriptor yX0_isAsMeasured.desc).map (fun d => d.parameters.length) = some 2 := by decide +kernel
/-- X0_isAsMeasured -/
theorem m_X0_isAsMeasured (l : Launch) (D : va_G) (y : Nat → ClassId) (c : Nat → Nat) (J : XJ) (S : St) (hI : StOk S) (hO : XOk S J) (a b : Nat) (ha : a < 1000) (h0b : b < 1000) : Met l yX0_isAsMeasured (ws_ yX0_isAsMeasured cX0_isAsMeasured 5 (some .boolean)) ({ frames := 2, cells := 0, slots := 0, locals := 43 }) (va_Pc [.ref (c 0), .int (nI a), .int (nI b)] (WR D y (cellsX y c J))) (QcRead (zb (asB S a b S.facts))) 0 0 (fun _ => False) := by
  refine x_start (by decide) (Nat.le_of_ble_eq_true rfl) ?_
  intro p e s m below meth cd ls hx hb hr hts hml hown hlocks hnm hB hl
  have hC := hB.1
  obtain ⟨⟨hK, hN⟩, hP⟩ := hB
  have hown : s.vm.findClass RX0 = some m.cls := hown
  have hl : lv_has ls 5 [(0, .ref (c 0)), (1, .int (nI a)), (2, .int (nI b))] := hl
  have i1 := hI.facts
  refine lv_iconst (v := nI 1) hx hb dX0_isAsMeasured_0 (by decide) ?_
  refine lv_istore_n (lv' := [(3, .int (nI 1)), (0, .ref (c 0)), (1, .int (nI a)), (2, .int (nI b))]) hx hb dX0_isAsMeasured_1 rfl hl (by decide) rfl (fun ls hl => ?_)
  refine lv_iconst (v := nI 0) hx hb dX0_isAsMeasured_2 (by decide) ?_
  refine lv_istore (lv' := [(4, .int (nI 0)), (3, .int (nI 1)), (0, .ref (c 0)), (1, .int (nI a)), (2, .int (nI b))]) hx hb dX0_isAsMeasured_3 hl (by decide) rfl (fun ls hl => ?_)
  refine w_loop (nL := 5) 5 (fun i => [(0, .ref (c 0)), (1, .int (nI a)), (2, .int (nI b)), (3, .int (zb (asB S a b i))), (4, .int (nI i))]) (fun i => i ≤ S.facts) (fun i => S.facts - i) ?_ 0 (Nat.zero_le _) ls (lv_sub hl [2, 3, 4, 1, 0] rfl)
  rintro i hi ih ls hl
  have hl : lv_has ls 5 [(0, .ref (c 0)), (1, .int (nI a)), (2, .int (nI b)), (3, .int (zb (asB S a b i))), (4, .int (nI i))] := hl
  refine lv_iload hx hb dX0_isAsMeasured_5 (lv_at hl 4 rfl) ?_
  refine lv_aload_n hx hb dX0_isAsMeasured_7 rfl (lv_at hl 0 rfl) ?_
  refine va_get (D := D) (ci := 0) (v := .int (nI S.facts)) (C := RX0) (T := TX0) (N := 19) hx hb hts in_X0 hown hK hP 0 rfl rfl 16 (by decide) (hts _ q507) (fun _ h9 => h9) (sv hO.facts) dX0_isAsMeasured_8 ?_
  refine n_icmp_ge (tgt := 50) hx hb dX0_isAsMeasured_11 (by decide) (by omega) (by omega) (fun h1 => ?_) (fun h1 => ?_)
  · refine lv_iload_n hx hb dX0_isAsMeasured_50 rfl (lv_at hl 3 rfl) ?_
    exact n_zret (Qc := fun _ _ _ _ => True) hx hb hr hlocks (by rw [show i = S.facts by omega]) dX0_isAsMeasured_51
  have h2 := hI.fw i (by omega)
  have h3 := hI.fn i (by omega)
  have h4 : wby (S.fn i) a b < 2147483648 := by unfold wby; split <;> omega
  refine n_cut 42 [.int (zb (decide (wby (S.fn i) a b = S.fw i))), .int (zb (asB S a b i))] (fun K => ?_) ?_
  · refine lv_iload_n hx hb dX0_isAsMeasured_14 rfl (lv_at hl 3 rfl) ?_
    refine lv_iload_n hx hb dX0_isAsMeasured_15 rfl (lv_at hl 1 rfl) ?_
    refine lv_iload_n hx hb dX0_isAsMeasured_16 rfl (lv_at hl 2 rfl) ?_
    refine lv_aload_n hx hb dX0_isAsMeasured_17 rfl (lv_at hl 0 rfl) ?_
    refine va_get (D := D) (ci := 0) (v := .ref (c 17)) (C := RX0) (T := TX0) (N := 19) hx hb hts in_X0 hown hK hP 0 rfl rfl 15 (by decide) (hts _ q506) (fun _ h9 => h9) rfl dX0_isAsMeasured_18 ?_
    refine lv_iload hx hb dX0_isAsMeasured_21 (lv_at hl 4 rfl) ?_
    refine n_zald (v := nI (S.fn i)) hx hb hK hP 17 2 rfl rfl (j := i) (by omega) (by decide) (hO.fn i (by omega)) dX0_isAsMeasured_23 ?_
    refine va_callR (va_runS (As := [.int (nI a), .int (nI b), .int (nI (S.fn i))]) (rest := [.int (zb (asB S a b i))]) ⟨hx, hb, hml, hown, hts⟩ (m_X0_widthBy l a b (S.fn i) (by omega) (by omega) (by omega)) (va_cwS 3 hts (lw_S q749 q750 q54 q751) rfl rfl rfl hd_X0_widthBy ⟨Nat.le_of_ble_eq_true rfl, Nat.le_of_ble_eq_true rfl⟩) pre0 rfl rfl hl.1 rfl (lv_room (Nat.le_of_ble_eq_true rfl)) dX0_isAsMeasured_24 ⟨Nat.le_of_ble_eq_true rfl, Nat.le_of_ble_eq_true rfl⟩) ?_
    refine lv_aload_n hx hb dX0_isAsMeasured_27 rfl (lv_at hl 0 rfl) ?_
    refine va_get (D := D) (ci := 0) (v := .ref (c 16)) (C := RX0) (T := TX0) (N := 19) hx hb hts in_X0 hown hK hP 0 rfl rfl 14 (by decide) (hts _ q505) (fun _ h9 => h9) rfl dX0_isAsMeasured_28 ?_
    refine lv_iload hx hb dX0_isAsMeasured_31 (lv_at hl 4 rfl) ?_
    refine n_iald (v := nI (S.fw i)) hx hb hK hP 16 0 rfl rfl (j := i) (by omega) (by decide) (hO.fw i (by omega)) dX0_isAsMeasured_33 ?_
    refine n_icmp_ne (tgt := 41) hx hb dX0_isAsMeasured_34 (by decide) (by omega) (by omega) (fun h5 => ?_) (fun h5 => ?_)
    · refine lv_iconst (v := nI 0) hx hb dX0_isAsMeasured_41 (by decide) ?_
      exact n_top (by rw [decide_eq_false h5]; decide) K
    refine lv_iconst (v := nI 1) hx hb dX0_isAsMeasured_37 (by decide) ?_
    refine lv_goto (tgt := 42) hx hb dX0_isAsMeasured_38 (by decide) ?_
    exact n_top (by rw [decide_eq_true h5]; decide) K
  refine lv_iand hx hb dX0_isAsMeasured_42 ?_
  refine n_top (y := zb ((asB S a b i) && (decide (wby (S.fn i) a b = S.fw i)))) (zb_and _ _) ?_
  refine lv_istore_n (lv' := [(3, .int (zb ((asB S a b i) && (decide (wby (S.fn i) a b = S.fw i))))), (0, .ref (c 0)), (1, .int (nI a)), (2, .int (nI b)), (4, .int (nI i))]) hx hb dX0_isAsMeasured_43 rfl hl (by decide) rfl (fun ls hl => ?_)
  refine lv_iinc (v := nI (i + 1)) (lv' := [(4, .int (nI (i + 1))), (3, .int (zb ((asB S a b i) && (decide (wby (S.fn i) a b = S.fw i))))), (0, .ref (c 0)), (1, .int (nI a)), (2, .int (nI b))]) hx hb dX0_isAsMeasured_44 hl (k := 4) rfl (nI_inc _) (by decide) rfl (fun ls hl => ?_)
  refine lv_goto (tgt := 5) hx hb dX0_isAsMeasured_47 (by decide) ?_
  exact ih (i + 1) (by omega) (by omega) ls (lv_sub hl [2, 3, 4, 1, 0] rfl)
theorem hd_X0_deeds : yX0_deeds.cls ≠ "java/lang/invoke/MethodHandle" ∧ yX0_deeds.cls ≠ "java/lang/invoke/VarHandle" ∧ (parseMethodDescriptor yX0_deeds.desc).map (fun d => d.parameters.length) = some 1 := by decide +kernel
/-- X0_deeds -/
theorem m_X0_deeds (l : Launch) (D : va_G) (y : Nat → ClassId) (c : Nat → Nat) (J : XJ) (S : St) (hI : StOk S) (hO : XOk S J) (w : Int32) : Met l yX0_deeds (ws_ yX0_deeds cX0_deeds 5 (some .int)) ({ frames := 3, cells := 0, slots := 0, locals := 67 }) (va_Pc [.ref (c 0), .int w] (WR D y (cellsX y c J))) (QcRead (ansDeeds S w)) 0 0 (fun _ => False) := by
  refine x_start (by decide) (Nat.le_of_ble_eq_true rfl) ?_
  intro p e s m below meth cd ls hx hb hr hts hml hown hlocks hnm hB hl
  have hC := hB.1
  obtain ⟨⟨hK, hN⟩, hP⟩ := hB
  have hown : s.vm.findClass RX0 = some m.cls := hown
  have hl : lv_has ls 5 [(0, .ref (c 0)), (1, .int w)] := hl
  refine lv_iload_n hx hb dX0_deeds_0 rfl (lv_at hl 1 rfl) ?_
  refine va_callR (va_runS (As := [.int w]) (rest := []) ⟨hx, hb, hml, hown, hts⟩ (m_X0_isBit l w) (va_cwS 1 hts (lw_S q592 q593 q54 q594) rfl rfl rfl hd_X0_isBit ⟨Nat.le_of_ble_eq_true rfl, Nat.le_of_ble_eq_true rfl⟩) pre0 rfl rfl hl.1 rfl (lv_room (Nat.le_of_ble_eq_true rfl)) dX0_deeds_1 ⟨Nat.le_of_ble_eq_true rfl, Nat.le_of_ble_eq_true rfl⟩) ?_
  refine z_if_ne (tgt := 9) hx hb dX0_deeds_4 (by decide) (fun h1 => ?_) (fun h1 => ?_)
  rotate_left
  · refine lv_iconst (v := (-1)) hx hb dX0_deeds_7 (by decide) ?_
    exact n_iret (Qc := fun _ _ _ _ => True) hx hb hr hlocks (by rw [ansDeeds, if_neg (bnf h1)]) dX0_deeds_8
  have h0 := h1
  obtain ⟨t, ht1, ht2, rfl⟩ := inI_of (by omega) (by omega) h1
  refine lv_iconst (v := nI 0) hx hb dX0_deeds_9 (by decide) ?_
  refine lv_istore_n (lv' := [(2, .int (nI 0)), (0, .ref (c 0)), (1, .int (nI t))]) hx hb dX0_deeds_10 rfl hl (by decide) rfl (fun ls hl => ?_)
  refine lv_bipush (v := (-9)) hx hb dX0_deeds_11 (by decide) ?_
  refine lv_istore_n (lv' := [(3, .int (-9)), (2, .int (nI 0)), (0, .ref (c 0)), (1, .int (nI t))]) hx hb dX0_deeds_13 rfl hl (by decide) rfl (fun ls hl => ?_)
  refine lv_iconst (v := nI 0) hx hb dX0_deeds_14 (by decide) ?_
  refine lv_istore (lv' := [(4, .int (nI 0)), (3, .int (-9)), (2, .int (nI 0)), (0, .ref (c 0)), (1, .int (nI t))]) hx hb dX0_deeds_15 hl (by decide) rfl (fun ls hl => ?_)
  refine w_loop (nL := 5) 17 (fun i => [(0, .ref (c 0)), (1, .int (nI t)), (2, .int (nI (cntP (asD S) i))), (3, .int (oI (fstP (asD S) i))), (4, .int (nI i))]) (fun i => i ≤ 100) (fun i => 100 - i) ?_ 0 (Nat.zero_le _) ls (lv_sub hl [3, 4, 2, 1, 0] rfl)
  rintro i hi ih ls hl
  have hl : lv_has ls 5 [(0, .ref (c 0)), (1, .int (nI t)), (2, .int (nI (cntP (asD S) i))), (3, .int (oI (fstP (asD S) i))), (4, .int (nI i))] := hl
  have c1 := cntP_le (asD S) i
  refine lv_iload hx hb dX0_deeds_17 (lv_at hl 4 rfl) ?_
  refine lv_bipush (v := nI 100) hx hb dX0_deeds_19 (by decide) ?_
  refine n_icmp_ge (tgt := 61) hx hb dX0_deeds_21 (by decide) (by omega) (by omega) (fun h2 => ?_) (fun h2 => ?_)
  · have e9 : i = 100 := by omega
    subst e9
    refine lv_iload_n hx hb dX0_deeds_61 rfl (lv_at hl 1 rfl) ?_
    refine n_if_ne (tgt := 69) hx hb dX0_deeds_62 (by decide) (by omega) (fun h3 => ?_) (fun h3 => ?_)
    rotate_left
    · refine lv_iload_n hx hb dX0_deeds_65 rfl (lv_at hl 2 rfl) ?_
      refine lv_goto (tgt := 70) hx hb dX0_deeds_66 (by decide) ?_
      exact n_iret (Qc := fun _ _ _ _ => True) hx hb hr hlocks (by rw [ansDeeds, if_pos h0, h3, if_pos rfl]) dX0_deeds_70
    refine lv_iload_n hx hb dX0_deeds_69 rfl (lv_at hl 3 rfl) ?_
    exact n_iret (Qc := fun _ _ _ _ => True) hx hb hr hlocks (by rw [ansDeeds, if_pos h0, if_neg (by rw [nI_eq (by omega) (by omega)]; exact h3)]) dX0_deeds_70
  refine lv_aload_n hx hb dX0_deeds_24 rfl (lv_at hl 0 rfl) ?_
  refine lv_iload hx hb dX0_deeds_25 (lv_at hl 4 rfl) ?_
  refine lv_bipush (v := nI 10) hx hb dX0_deeds_27 (by decide) ?_
  refine n_div hx hb dX0_deeds_29 (by omega) (by omega) (by omega) ?_
  refine lv_iload hx hb dX0_deeds_30 (lv_at hl 4 rfl) ?_
  refine lv_bipush (v := nI 10) hx hb dX0_deeds_32 (by decide) ?_
  refine n_rem hx hb dX0_deeds_34 (by omega) (by omega) (by omega) ?_
  refine va_callR (va_runV (As := [.int (nI (i / 10)), .int (nI (i % 10))]) (rest := []) ⟨hx, hb, hml, hown, hts⟩ (m_X0_isAsMeasured l D y c J S hI hO (i / 10) (i % 10) (by omega) (by omega)) (cwV 2 hts (lw_V q745 q747 qs26 q54 q748) rfl rfl rfl ⟨rfl, hd_X0_isAsMeasured⟩ ⟨Nat.le_of_ble_eq_true rfl, Nat.le_of_ble_eq_true rfl⟩) (preVR hC hP 0 0 rfl rfl) rfl rfl hl.1 rfl (lv_room (Nat.le_of_ble_eq_true rfl)) dX0_deeds_35 ⟨Nat.le_of_ble_eq_true rfl, Nat.le_of_ble_eq_true rfl⟩) ?_
  refine z_if_eq (tgt := 55) hx hb dX0_deeds_38 (by decide) (fun h4 => ?_) (fun h4 => ?_)
  · have h4 : asD S i = false := h4
    refine lv_iinc (v := nI (i + 1)) (lv' := [(4, .int (nI (i + 1))), (0, .ref (c 0)), (1, .int (nI t)), (2, .int (nI (cntP (asD S) i))), (3, .int (oI (fstP (asD S) i)))]) hx hb dX0_deeds_55 hl (k := 4) rfl (nI_inc _) (by decide) rfl (fun ls hl => ?_)
    refine lv_goto (tgt := 17) hx hb dX0_deeds_58 (by decide) ?_
    have e1 : cntP (asD S) i = cntP (asD S) (i + 1) := by show _ = cntP (asD S) i + (if _ then _ else _); rw [if_neg (bnf h4)]; rfl
    have e2 : fstP (asD S) i = fstP (asD S) (i + 1) := by show _ = (if _ then _ else _); rw [if_neg (bnf h4)]
    rw [e1, e2] at hl
    exact ih (i + 1) (by omega) (by omega) ls (lv_sub hl [1, 2, 3, 4, 0] rfl)
  have h4 : asD S i = true := h4
  refine n_cut 51 [.int (oI (fstP (asD S) (i + 1)))] (fun K => ?_) ?_
  · refine lv_iload_n hx hb dX0_deeds_41 rfl (lv_at hl 2 rfl) ?_
    refine n_if_ne (tgt := 50) hx hb dX0_deeds_42 (by decide) (by omega) (fun h5 => ?_) (fun h5 => ?_)
    · refine lv_iload_n hx hb dX0_deeds_50 rfl (lv_at hl 3 rfl) ?_
      exact n_top (by show _ = oI (if _ then (if _ then _ else _) else _); rw [if_pos h4, if_neg h5]) K
    refine lv_iload hx hb dX0_deeds_45 (lv_at hl 4 rfl) ?_
    refine lv_goto (tgt := 51) hx hb dX0_deeds_47 (by decide) ?_
    exact n_top (by show _ = oI (if _ then (if _ then _ else _) else _); rw [if_pos h4, if_pos h5]; rfl) K
  refine lv_istore_n (lv' := [(3, .int (oI (fstP (asD S) (i + 1)))), (0, .ref (c 0)), (1, .int (nI t)), (2, .int (nI (cntP (asD S) i))), (4, .int (nI i))]) hx hb dX0_deeds_51 rfl hl (by decide) rfl (fun ls hl => ?_)
  refine lv_iinc (v := nI (cntP (asD S) i + 1)) (lv' := [(2, .int (nI (cntP (asD S) i + 1))), (3, .int (oI (fstP (asD S) (i + 1)))), (0, .ref (c 0)), (1, .int (nI t)), (4, .int (nI i))]) hx hb dX0_deeds_52 hl (k := 3) rfl (nI_inc _) (by decide) rfl (fun ls hl => ?_)
  refine lv_iinc (v := nI (i + 1)) (lv' := [(4, .int (nI (i + 1))), (2, .int (nI (cntP (asD S) i + 1))), (3, .int (oI (fstP (asD S) (i + 1)))), (0, .ref (c 0)), (1, .int (nI t))]) hx hb dX0_deeds_55 hl (k := 4) rfl (nI_inc _) (by decide) rfl (fun ls hl => ?_)
  refine lv_goto (tgt := 17) hx hb dX0_deeds_58 (by decide) ?_
  have e1 : cntP (asD S) i + 1 = cntP (asD S) (i + 1) := by show _ = cntP (asD S) i + (if _ then _ else _); rw [if_pos h4]
  rw [e1] at hl
  exact ih (i + 1) (by omega) (by omega) ls (lv_sub hl [3, 4, 1, 2, 0] rfl)
theorem hd_X0_alike : yX0_alike.cls ≠ "java/lang/invoke/MethodHandle" ∧ yX0_alike.cls ≠ "java/lang/invoke/VarHandle" ∧ (parseMethodDescriptor yX0_alike.desc).map (fun d => d.parameters.length) = some 1 := by decide +kernel
/-- X0_alike -/
theorem m_X0_alike (l : Launch) (D : va_G) (y : Nat → ClassId) (c : Nat → Nat) (J : XJ) (S : St) (hI : StOk S) (hO : XOk S J) (t : Nat) (ht : t < 2147483648) : Met l yX0_alike (ws_ yX0_alike cX0_alike 7 (some .int)) ({ frames := 3, cells := 0, slots := 0, locals := 67 }) (va_Pc [.ref (c 0), .int (nI t)] (WR D y (cellsX y c J))) (QcRead (nI (alF S t 10))) 0 0 (fun _ => False) := by
  refine x_start (by decide) (Nat.le_of_ble_eq_true rfl) ?_
  intro p e s m below meth cd ls hx hb hr hts hml hown hlocks hnm hB hl
  have hC := hB.1
  obtain ⟨⟨hK, hN⟩, hP⟩ := hB
  have hown : s.vm.findClass RX0 = some m.cls := hown
  have hl : lv_has ls 7 [(0, .ref (c 0)), (1, .int (nI t))] := hl
  refine lv_iconst (v := nI 0) hx hb dX0_alike_0 (by decide) ?_
  refine lv_istore_n (lv' := [(2, .int (nI 0)), (0, .ref (c 0)), (1, .int (nI t))]) hx hb dX0_alike_1 rfl hl (by decide) rfl (fun ls hl => ?_)
  refine lv_iconst (v := nI 1) hx hb dX0_alike_2 (by decide) ?_
  refine lv_istore_n (lv' := [(3, .int (nI 1)), (2, .int (nI 0)), (0, .ref (c 0)), (1, .int (nI t))]) hx hb dX0_alike_3 rfl hl (by decide) rfl (fun ls hl => ?_)
  refine w_loop (nL := 7) 4 (fun k => [(0, .ref (c 0)), (1, .int (nI t)), (2, .int (nI (alF S t k))), (3, .int (nI (k + 1)))]) (fun k => k ≤ 10) (fun k => 10 - k) ?_ 0 (Nat.zero_le _) ls (lv_sub hl [2, 3, 1, 0] rfl)
  rintro k hi ih ls hl
  have hl : lv_has ls 7 [(0, .ref (c 0)), (1, .int (nI t)), (2, .int (nI (alF S t k))), (3, .int (nI (k + 1)))] := hl
  have a1 := alF_le S t k
  refine lv_iload_n hx hb dX0_alike_4 rfl (lv_at hl 3 rfl) ?_
  refine lv_bipush (v := nI 10) hx hb dX0_alike_5 (by decide) ?_
  refine n_icmp_gt (tgt := 91) hx hb dX0_alike_7 (by decide) (by omega) (by omega) (fun h1 => ?_) (fun h1 => ?_)
  · refine lv_iload_n hx hb dX0_alike_91 rfl (lv_at hl 2 rfl) ?_
    exact n_iret (Qc := fun _ _ _ _ => True) hx hb hr hlocks (by rw [show k = 10 by omega]) dX0_alike_92
  have ihk := ih
  refine lv_iconst (v := nI 0) hx hb dX0_alike_10 (by decide) ?_
  refine lv_istore (lv' := [(4, .int (nI 0)), (0, .ref (c 0)), (1, .int (nI t)), (2, .int (nI (alF S t k))), (3, .int (nI (k + 1)))]) hx hb dX0_alike_11 hl (by decide) rfl (fun ls hl => ?_)
  refine lv_iconst (v := nI 0) hx hb dX0_alike_13 (by decide) ?_
  refine lv_istore (lv' := [(5, .int (nI 0)), (4, .int (nI 0)), (0, .ref (c 0)), (1, .int (nI t)), (2, .int (nI (alF S t k))), (3, .int (nI (k + 1)))]) hx hb dX0_alike_14 hl (by decide) rfl (fun ls hl => ?_)
  refine w_loop (nL := 7) 16 (fun i => [(0, .ref (c 0)), (1, .int (nI t)), (2, .int (nI (alF S t k))), (3, .int (nI (k + 1))), (4, .int (nI (cntP (alP S t (k + 1)) i))), (5, .int (nI i))]) (fun i => i ≤ 100) (fun i => 100 - i) ?_ 0 (Nat.zero_le _) ls (lv_sub hl [2, 3, 4, 5, 1, 0] rfl)
  rintro i hi2 ih ls hl
  have hl : lv_has ls 7 [(0, .ref (c 0)), (1, .int (nI t)), (2, .int (nI (alF S t k))), (3, .int (nI (k + 1))), (4, .int (nI (cntP (alP S t (k + 1)) i))), (5, .int (nI i))] := hl
  have c1 := cntP_le (alP S t (k + 1)) i
  refine lv_iload hx hb dX0_alike_16 (lv_at hl 5 rfl) ?_
  refine lv_bipush (v := nI 100) hx hb dX0_alike_18 (by decide) ?_
  refine n_icmp_ge (tgt := 78) hx hb dX0_alike_20 (by decide) (by omega) (by omega) (fun h2 => ?_) (fun h2 => ?_)
  · refine lv_iload_n hx hb dX0_alike_78 rfl (lv_at hl 2 rfl) ?_
    refine lv_iload hx hb dX0_alike_79 (lv_at hl 4 rfl) ?_
    refine va_mmax hx hb (hml.trans hl.1.symm) hown (hts _ q613) (hts _ q141) (hts _ q68) (hts _ q142) (Nat.le_of_ble_eq_true rfl) (Nat.le_of_ble_eq_true rfl) (Nat.le_of_ble_eq_true rfl) (Nat.le_of_ble_eq_true rfl) dX0_alike_81 ?_
    refine n_top (y := nI (max (alF S t k) (cntP (alP S t (k + 1)) i))) (nI_max (by omega) (by omega)) ?_
    refine lv_istore_n (lv' := [(2, .int (nI (max (alF S t k) (cntP (alP S t (k + 1)) i)))), (0, .ref (c 0)), (1, .int (nI t)), (3, .int (nI (k + 1))), (4, .int (nI (cntP (alP S t (k + 1)) i))), (5, .int (nI i))]) hx hb dX0_alike_84 rfl hl (by decide) rfl (fun ls hl => ?_)
    refine lv_iinc (v := nI (k + 1 + 1)) (lv' := [(3, .int (nI (k + 1 + 1))), (2, .int (nI (max (alF S t k) (cntP (alP S t (k + 1)) i)))), (0, .ref (c 0)), (1, .int (nI t)), (4, .int (nI (cntP (alP S t (k + 1)) i))), (5, .int (nI i))]) hx hb dX0_alike_85 hl (k := 3) rfl (nI_inc _) (by decide) rfl (fun ls hl => ?_)
    refine lv_goto (tgt := 4) hx hb dX0_alike_88 (by decide) ?_
    rw [show i = 100 by omega] at hl
    exact ihk (k + 1) (by omega) (by omega) ls (lv_sub hl [2, 3, 1, 0] rfl)
  have h4 : wby t (i / 10) (i % 10) < 2147483648 := by unfold wby; split <;> omega
  refine lv_aload_n hx hb dX0_alike_23 rfl (lv_at hl 0 rfl) ?_
  refine lv_iload hx hb dX0_alike_24 (lv_at hl 5 rfl) ?_
  refine lv_bipush (v := nI 10) hx hb dX0_alike_26 (by decide) ?_
  refine n_div hx hb dX0_alike_28 (by omega) (by omega) (by omega) ?_
  refine lv_iload hx hb dX0_alike_29 (lv_at hl 5 rfl) ?_
  refine lv_bipush (v := nI 10) hx hb dX0_alike_31 (by decide) ?_
  refine n_rem hx hb dX0_alike_33 (by omega) (by omega) (by omega) ?_
  refine va_callR (va_runV (As := [.int (nI (i / 10)), .int (nI (i % 10))]) (rest := []) ⟨hx, hb, hml, hown, hts⟩ (m_X0_isAsMeasured l D y c J S hI hO (i / 10) (i % 10) (by omega) (by omega)) (cwV 2 hts (lw_V q745 q747 qs26 q54 q748) rfl rfl rfl ⟨rfl, hd_X0_isAsMeasured⟩ ⟨Nat.le_of_ble_eq_true rfl, Nat.le_of_ble_eq_true rfl⟩) (preVR hC hP 0 0 rfl rfl) rfl rfl hl.1 rfl (lv_room (Nat.le_of_ble_eq_true rfl)) dX0_alike_34 ⟨Nat.le_of_ble_eq_true rfl, Nat.le_of_ble_eq_true rfl⟩) ?_
  refine lv_istore (lv' := [(6, .int (zb (asB S (i / 10) (i % 10) S.facts))), (0, .ref (c 0)), (1, .int (nI t)), (2, .int (nI (alF S t k))), (3, .int (nI (k + 1))), (4, .int (nI (cntP (alP S t (k + 1)) i))), (5, .int (nI i))]) hx hb dX0_alike_37 hl (by decide) rfl (fun ls hl => ?_)
  refine n_cut 69 [.int (nI (if (alP S t (k + 1)) i = true then 1 else 0)), .int (nI (cntP (alP S t (k + 1)) i))] (fun K => ?_) ?_
  · refine lv_iload hx hb dX0_alike_39 (lv_at hl 5 rfl) ?_
    refine lv_iload hx hb dX0_alike_41 (lv_at hl 0 rfl) ?_
    refine z_if_eq (tgt := 68) hx hb dX0_alike_43 (by decide) (fun h5 => ?_) (fun h5 => ?_)
    · refine lv_iconst (v := nI 0) hx hb dX0_alike_68 (by decide) ?_
      exact n_top (by rw [if_neg (bnf (by simp [alP, asD, h5]))]) K
    refine lv_iload hx hb dX0_alike_46 (lv_at hl 6 rfl) ?_
    refine lv_bipush (v := nI 10) hx hb dX0_alike_48 (by decide) ?_
    refine n_div hx hb dX0_alike_50 (by omega) (by omega) (by omega) ?_
    refine lv_iload hx hb dX0_alike_51 (lv_at hl 6 rfl) ?_
    refine lv_bipush (v := nI 10) hx hb dX0_alike_53 (by decide) ?_
    refine n_rem hx hb dX0_alike_55 (by omega) (by omega) (by omega) ?_
    refine lv_iload_n hx hb dX0_alike_56 rfl (lv_at hl 2 rfl) ?_
    refine va_callR (va_runS (As := [.int (nI (i / 10)), .int (nI (i % 10)), .int (nI t)]) (rest := [.int (nI (cntP (alP S t (k + 1)) i))]) ⟨hx, hb, hml, hown, hts⟩ (m_X0_widthBy l (i / 10) (i % 10) t (by omega) (by omega) (by omega)) (va_cwS 3 hts (lw_S q749 q750 q54 q751) rfl rfl rfl hd_X0_widthBy ⟨Nat.le_of_ble_eq_true rfl, Nat.le_of_ble_eq_true rfl⟩) pre0 rfl rfl hl.1 rfl (lv_room (Nat.le_of_ble_eq_true rfl)) dX0_alike_57 ⟨Nat.le_of_ble_eq_true rfl, Nat.le_of_ble_eq_true rfl⟩) ?_
    refine lv_iload_n hx hb dX0_alike_60 rfl (lv_at hl 4 rfl) ?_
    refine n_icmp_ne (tgt := 68) hx hb dX0_alike_61 (by decide) (by omega) (by omega) (fun h6 => ?_) (fun h6 => ?_)
    · refine lv_iconst (v := nI 0) hx hb dX0_alike_68 (by decide) ?_
      exact n_top (by rw [if_neg (bnf (by simp [alP, asD, h6]))]) K
    refine lv_iconst (v := nI 1) hx hb dX0_alike_64 (by decide) ?_
    refine lv_goto (tgt := 69) hx hb dX0_alike_65 (by decide) ?_
    exact n_top (by rw [if_pos (by simp [alP, asD, h5, h6])]) K
  refine n_add hx hb dX0_alike_69 ?_
  refine lv_istore (lv' := [(4, .int (nI (cntP (alP S t (k + 1)) i + (if (alP S t (k + 1)) i = true then 1 else 0)))), (6, .int (zb (asB S (i / 10) (i % 10) S.facts))), (0, .ref (c 0)), (1, .int (nI t)), (2, .int (nI (alF S t k))), (3, .int (nI (k + 1))), (5, .int (nI i))]) hx hb dX0_alike_70 hl (by decide) rfl (fun ls hl => ?_)
  refine lv_iinc (v := nI (i + 1)) (lv' := [(5, .int (nI (i + 1))), (4, .int (nI (cntP (alP S t (k + 1)) i + (if (alP S t (k + 1)) i = true then 1 else 0)))), (6, .int (zb (asB S (i / 10) (i % 10) S.facts))), (0, .ref (c 0)), (1, .int (nI t)), (2, .int (nI (alF S t k))), (3, .int (nI (k + 1)))]) hx hb dX0_alike_72 hl (k := 6) rfl (nI_inc _) (by decide) rfl (fun ls hl => ?_)
  refine lv_goto (tgt := 16) hx hb dX0_alike_75 (by decide) ?_
  exact ih (i + 1) (by omega) (by omega) ls (lv_sub hl [3, 4, 5, 6, 1, 0] rfl)
theorem hd_X0_when : yX0_when.cls ≠ "java/lang/invoke/MethodHandle" ∧ yX0_when.cls ≠ "java/lang/invoke/VarHandle" ∧ (parseMethodDescriptor yX0_when.desc).map (fun d => d.parameters.length) = some 0 := by decide +kernel
/-- X0_when -/
theorem m_X0_when (l : Launch) (D : va_G) (y : Nat → ClassId) (c : Nat → Nat) (J : XJ) (S : St) (hI : StOk S) (hO : XOk S J)  : Met l yX0_when (ws_ yX0_when cX0_when 2 (some .int)) ({ frames := 4, cells := 0, slots := 0, locals := 93 }) (va_Pc [.ref (c 0)] (WR D y (cellsX y c J))) (QcRead (ansWhen S)) 0 0 (fun _ => False) := by
  refine x_start (by decide) (Nat.le_of_ble_eq_true rfl) ?_
  intro p e s m below meth cd ls hx hb hr hts hml hown hlocks hnm hB hl
  have hC := hB.1
  obtain ⟨⟨hK, hN⟩, hP⟩ := hB
  have hown : s.vm.findClass RX0 = some m.cls := hown
  have hl : lv_has ls 2 [(0, .ref (c 0))] := hl
  have a1 := alF_le S 0 10
  have a2 := alF_le S 1 10
  refine lv_aload_n hx hb dX0_when_0 rfl (lv_at hl 0 rfl) ?_
  refine lv_iconst (v := nI 0) hx hb dX0_when_1 (by decide) ?_
  refine va_callR (va_runV (As := [.int (nI 0)]) (rest := []) ⟨hx, hb, hml, hown, hts⟩ (m_X0_alike l D y c J S hI hO 0 (by omega)) (cwV 1 hts (lw_V q756 q758 qs27 q54 q759) rfl rfl rfl ⟨rfl, hd_X0_alike⟩ ⟨Nat.le_of_ble_eq_true rfl, Nat.le_of_ble_eq_true rfl⟩) (preVR hC hP 0 0 rfl rfl) rfl rfl hl.1 rfl (lv_room (Nat.le_of_ble_eq_true rfl)) dX0_when_2 ⟨Nat.le_of_ble_eq_true rfl, Nat.le_of_ble_eq_true rfl⟩) ?_
  refine lv_istore_n (lv' := [(1, .int (nI (alF S 0 10))), (0, .ref (c 0))]) hx hb dX0_when_5 rfl hl (by decide) rfl (fun ls hl => ?_)
  refine lv_iload_n hx hb dX0_when_6 rfl (lv_at hl 0 rfl) ?_
  refine n_if_ne (tgt := 15) hx hb dX0_when_7 (by decide) (by omega) (fun h1 => ?_) (fun h1 => ?_)
  rotate_left
  · refine lv_bipush (v := (-9)) hx hb dX0_when_10 (by decide) ?_
    refine lv_goto (tgt := 29) hx hb dX0_when_12 (by decide) ?_
    exact n_iret (Qc := fun _ _ _ _ => True) hx hb hr hlocks (by rw [ansWhen, if_pos h1]) dX0_when_29
  refine lv_aload_n hx hb dX0_when_15 rfl (lv_at hl 1 rfl) ?_
  refine lv_iconst (v := nI 1) hx hb dX0_when_16 (by decide) ?_
  refine va_callR (va_runV (As := [.int (nI 1)]) (rest := []) ⟨hx, hb, hml, hown, hts⟩ (m_X0_alike l D y c J S hI hO 1 (by omega)) (cwV 1 hts (lw_V q756 q758 qs27 q54 q759) rfl rfl rfl ⟨rfl, hd_X0_alike⟩ ⟨Nat.le_of_ble_eq_true rfl, Nat.le_of_ble_eq_true rfl⟩) (preVR hC hP 0 0 rfl rfl) rfl rfl hl.1 rfl (lv_room (Nat.le_of_ble_eq_true rfl)) dX0_when_17 ⟨Nat.le_of_ble_eq_true rfl, Nat.le_of_ble_eq_true rfl⟩) ?_
  refine lv_iload_n hx hb dX0_when_20 rfl (lv_at hl 0 rfl) ?_
  refine n_icmp_ge (tgt := 28) hx hb dX0_when_21 (by decide) (by omega) (by omega) (fun h2 => ?_) (fun h2 => ?_)
  · refine lv_iconst (v := nI 0) hx hb dX0_when_28 (by decide) ?_
    exact n_iret (Qc := fun _ _ _ _ => True) hx hb hr hlocks (by rw [ansWhen, if_neg h1, if_neg (by omega)]) dX0_when_29
  refine lv_iconst (v := nI 1) hx hb dX0_when_24 (by decide) ?_
  refine lv_goto (tgt := 29) hx hb dX0_when_25 (by decide) ?_
  exact n_iret (Qc := fun _ _ _ _ => True) hx hb hr hlocks (by rw [ansWhen, if_neg h1, if_pos h2]) dX0_when_29
theorem hd_X0_meeting : yX0_meeting.cls ≠ "java/lang/invoke/MethodHandle" ∧ yX0_meeting.cls ≠ "java/lang/invoke/VarHandle" ∧ (parseMethodDescriptor yX0_meeting.desc).map (fun d => d.parameters.length) = some 1 := by decide +kernel
/-- X0_meeting -/
theorem m_X0_meeting (l : Launch) (D : va_G) (y : Nat → ClassId) (c : Nat → Nat) (J : XJ) (S : St) (hI : StOk S) (hO : XOk S J) (j : Nat) (hj : j < S.str) : Met l yX0_meeting (ws_ yX0_meeting cX0_meeting 4 (some .int)) ({ frames := 1, cells := 0, slots := 0, locals := 22 }) (va_Pc [.ref (c 0), .int (nI j)] (WR D y (cellsX y c J))) (QcRead (nI (mtF S j S.str))) 0 0 (fun _ => False) := by
  refine x_start (by decide) (Nat.le_of_ble_eq_true rfl) ?_
  intro p e s m below meth cd ls hx hb hr hts hml hown hlocks hnm hB hl
  have hC := hB.1
  obtain ⟨⟨hK, hN⟩, hP⟩ := hB
  have hown : s.vm.findClass RX0 = some m.cls := hown
  have hl : lv_has ls 4 [(0, .ref (c 0)), (1, .int (nI j))] := hl
  have i1 := hI.str
  refine lv_iconst (v := nI 0) hx hb dX0_meeting_0 (by decide) ?_
  refine lv_istore_n (lv' := [(2, .int (nI 0)), (0, .ref (c 0)), (1, .int (nI j))]) hx hb dX0_meeting_1 rfl hl (by decide) rfl (fun ls hl => ?_)
  refine lv_iconst (v := nI 0) hx hb dX0_meeting_2 (by decide) ?_
  refine lv_istore_n (lv' := [(3, .int (nI 0)), (2, .int (nI 0)), (0, .ref (c 0)), (1, .int (nI j))]) hx hb dX0_meeting_3 rfl hl (by decide) rfl (fun ls hl => ?_)
  refine w_loop (nL := 4) 4 (fun i => [(0, .ref (c 0)), (1, .int (nI j)), (2, .int (nI (mtF S j i))), (3, .int (nI i))]) (fun i => i ≤ S.str) (fun i => S.str - i) ?_ 0 (Nat.zero_le _) ls (lv_sub hl [2, 3, 1, 0] rfl)
  rintro i hi ih ls hl
  have hl : lv_has ls 4 [(0, .ref (c 0)), (1, .int (nI j)), (2, .int (nI (mtF S j i))), (3, .int (nI i))] := hl
  refine lv_iload_n hx hb dX0_meeting_4 rfl (lv_at hl 3 rfl) ?_
  refine lv_aload_n hx hb dX0_meeting_5 rfl (lv_at hl 0 rfl) ?_
  refine va_get (D := D) (ci := 0) (v := .ref (c 1)) (C := RX0) (T := TX0) (N := 19) hx hb hts in_X0 hown hK hP 0 rfl rfl 0 (by decide) (hts _ q485) (fun _ h9 => h9) rfl dX0_meeting_6 ?_
  refine va_getN (D := D) (ci := 1) (v := .int (nI S.str)) (C := RX1) (T := TX1) (N := 8) hx hb hts in_X1 hown hK hP 1 rfl rfl 1 (by decide) (va_Nw.use rfl (hN _ q322 rfl)) (fun _ h9 => h9) (sv hO.str) dX0_meeting_9 ?_
  refine n_icmp_ge (tgt := 41) hx hb dX0_meeting_12 (by decide) (by omega) (by omega) (fun h1 => ?_) (fun h1 => ?_)
  · refine lv_iload_n hx hb dX0_meeting_41 rfl (lv_at hl 2 rfl) ?_
    exact n_iret (Qc := fun _ _ _ _ => True) hx hb hr hlocks (by rw [show i = S.str by omega]) dX0_meeting_42
  refine n_cut 33 [.int (nI (if meetF S j i = true then 1 else 0)), .int (nI (mtF S j i))] (fun K => ?_) ?_
  · refine lv_iload_n hx hb dX0_meeting_15 rfl (lv_at hl 2 rfl) ?_
    refine lv_aload_n hx hb dX0_meeting_16 rfl (lv_at hl 0 rfl) ?_
    refine va_get (D := D) (ci := 0) (v := .ref (c 1)) (C := RX0) (T := TX0) (N := 19) hx hb hts in_X0 hown hK hP 0 rfl rfl 0 (by decide) (hts _ q485) (fun _ h9 => h9) rfl dX0_meeting_17 ?_
    refine lv_iload_n hx hb dX0_meeting_20 rfl (lv_at hl 1 rfl) ?_
    refine lv_iload_n hx hb dX0_meeting_21 rfl (lv_at hl 3 rfl) ?_
    refine va_callR (va_runV (As := [.int (nI j), .int (nI i)]) (rest := [.int (nI (mtF S j i))]) ⟨hx, hb, hml, hown, hts⟩ (m_X1_meet l D y c J S hI hO j i (by omega) (by omega)) (cwV 2 hts (lw_V q777 q585 q586 q55 q587) rfl rfl rfl ⟨rfl, hd_X1_meet⟩ ⟨Nat.le_of_ble_eq_true rfl, Nat.le_of_ble_eq_true rfl⟩) (preVR hC hP 1 1 rfl rfl) rfl rfl hl.1 rfl (lv_room (Nat.le_of_ble_eq_true rfl)) dX0_meeting_22 ⟨Nat.le_of_ble_eq_true rfl, Nat.le_of_ble_eq_true rfl⟩) ?_
    refine z_if_eq (tgt := 32) hx hb dX0_meeting_25 (by decide) (fun h3 => ?_) (fun h3 => ?_)
    · refine lv_iconst (v := nI 0) hx hb dX0_meeting_32 (by decide) ?_
      exact n_top (by rw [if_neg (bnf h3)]) K
    refine lv_iconst (v := nI 1) hx hb dX0_meeting_28 (by decide) ?_
    refine lv_goto (tgt := 33) hx hb dX0_meeting_29 (by decide) ?_
    exact n_top (by rw [if_pos h3]) K
  refine n_add hx hb dX0_meeting_33 ?_
  refine lv_istore_n (lv' := [(2, .int (nI (mtF S j i + (if meetF S j i = true then 1 else 0)))), (0, .ref (c 0)), (1, .int (nI j)), (3, .int (nI i))]) hx hb dX0_meeting_34 rfl hl (by decide) rfl (fun ls hl => ?_)
  refine lv_iinc (v := nI (i + 1)) (lv' := [(3, .int (nI (i + 1))), (2, .int (nI (mtF S j i + (if meetF S j i = true then 1 else 0)))), (0, .ref (c 0)), (1, .int (nI j))]) hx hb dX0_meeting_35 hl (k := 3) rfl (nI_inc _) (by decide) rfl (fun ls hl => ?_)
  refine lv_goto (tgt := 4) hx hb dX0_meeting_38 (by decide) ?_
  exact ih (i + 1) (by omega) (by omega) ls (lv_sub hl [2, 3, 1, 0] rfl)
theorem hd_X0_count : yX0_count.cls ≠ "java/lang/invoke/MethodHandle" ∧ yX0_count.cls ≠ "java/lang/invoke/VarHandle" ∧ (parseMethodDescriptor yX0_count.desc).map (fun d => d.parameters.length) = some 1 := by decide +kernel
/-- X0_count -/
theorem m_X0_count (l : Launch) (D : va_G) (y : Nat → ClassId) (c : Nat → Nat) (J : XJ) (S : St) (hI : StOk S) (hO : XOk S J) (w : Int32) : Met l yX0_count (ws_ yX0_count cX0_count 2 (some .int)) ({ frames := 0, cells := 0, slots := 0, locals := 0 }) (va_Pc [.ref (c 0), .int w] (WR D y (cellsX y c J))) (QcRead (ansCount S w)) 0 0 (fun _ => False) := by
  refine x_start (by decide) (Nat.le_of_ble_eq_true rfl) ?_
  intro p e s m below meth cd ls hx hb hr hts hml hown hlocks hnm hB hl
  have hC := hB.1
  obtain ⟨⟨hK, hN⟩, hP⟩ := hB
  have hown : s.vm.findClass RX0 = some m.cls := hown
  have hl : lv_has ls 2 [(0, .ref (c 0)), (1, .int w)] := hl
  refine lv_iload_n hx hb dX0_count_0 rfl (lv_at hl 1 rfl) ?_
  by_cases w0 : w = nI 0
  · subst w0
    refine lv_tableIn (off := 39) (tgt := 40) hx hb dX0_count_1 (by decide) (by decide) rfl (by decide) ?_
    refine lv_aload_n hx hb dX0_count_40 rfl (lv_at hl 0 rfl) ?_
    refine va_get (D := D) (ci := 0) (v := .ref (c 1)) (C := RX0) (T := TX0) (N := 19) hx hb hts in_X0 hown hK hP 0 rfl rfl 0 (by decide) (hts _ q485) (fun _ h9 => h9) rfl dX0_count_41 ?_
    refine va_getN (D := D) (ci := 1) (v := .int (nI S.yds)) (C := RX1) (T := TX1) (N := 8) hx hb hts in_X1 hown hK hP 1 rfl rfl 0 (by decide) (va_Nw.use rfl (hN _ q319 rfl)) (fun _ h9 => h9) (sv hO.yds) dX0_count_44 ?_
    exact n_iret (Qc := fun _ _ _ _ => True) hx hb hr hlocks (by rfl) dX0_count_47
  by_cases w1 : w = nI 1
  · subst w1
    refine lv_tableIn (off := 47) (tgt := 48) hx hb dX0_count_1 (by decide) (by decide) rfl (by decide) ?_
    refine lv_aload_n hx hb dX0_count_48 rfl (lv_at hl 0 rfl) ?_
    refine va_get (D := D) (ci := 0) (v := .ref (c 1)) (C := RX0) (T := TX0) (N := 19) hx hb hts in_X0 hown hK hP 0 rfl rfl 0 (by decide) (hts _ q485) (fun _ h9 => h9) rfl dX0_count_49 ?_
    refine va_getN (D := D) (ci := 1) (v := .int (nI S.str)) (C := RX1) (T := TX1) (N := 8) hx hb hts in_X1 hown hK hP 1 rfl rfl 1 (by decide) (va_Nw.use rfl (hN _ q322 rfl)) (fun _ h9 => h9) (sv hO.str) dX0_count_52 ?_
    exact n_iret (Qc := fun _ _ _ _ => True) hx hb hr hlocks (by rfl) dX0_count_55
  by_cases w2 : w = nI 2
  · subst w2
    refine lv_tableIn (off := 55) (tgt := 56) hx hb dX0_count_1 (by decide) (by decide) rfl (by decide) ?_
    refine lv_aload_n hx hb dX0_count_56 rfl (lv_at hl 0 rfl) ?_
    refine va_get (D := D) (ci := 0) (v := .ref (c 1)) (C := RX0) (T := TX0) (N := 19) hx hb hts in_X0 hown hK hP 0 rfl rfl 0 (by decide) (hts _ q485) (fun _ h9 => h9) rfl dX0_count_57 ?_
    refine va_getN (D := D) (ci := 1) (v := .int (nI S.ppl)) (C := RX1) (T := TX1) (N := 8) hx hb hts in_X1 hown hK hP 1 rfl rfl 5 (by decide) (va_Nw.use rfl (hN _ q335 rfl)) (fun _ h9 => h9) (sv hO.ppl) dX0_count_60 ?_
    exact n_iret (Qc := fun _ _ _ _ => True) hx hb hr hlocks (by rfl) dX0_count_63
  by_cases w3 : w = nI 3
  · subst w3
    refine lv_tableIn (off := 63) (tgt := 64) hx hb dX0_count_1 (by decide) (by decide) rfl (by decide) ?_
    refine lv_aload_n hx hb dX0_count_64 rfl (lv_at hl 0 rfl) ?_
    refine va_get (D := D) (ci := 0) (v := .int (nI S.facts)) (C := RX0) (T := TX0) (N := 19) hx hb hts in_X0 hown hK hP 0 rfl rfl 16 (by decide) (hts _ q507) (fun _ h9 => h9) (sv hO.facts) dX0_count_65 ?_
    exact n_iret (Qc := fun _ _ _ _ => True) hx hb hr hlocks (by rfl) dX0_count_68
  by_cases w4 : w = nI 4
  · subst w4
    refine lv_tableIn (off := 68) (tgt := 69) hx hb dX0_count_1 (by decide) (by decide) rfl (by decide) ?_
    refine lv_aload_n hx hb dX0_count_69 rfl (lv_at hl 0 rfl) ?_
    refine va_get (D := D) (ci := 0) (v := .int (nI S.und)) (C := RX0) (T := TX0) (N := 19) hx hb hts in_X0 hown hK hP 0 rfl rfl 7 (by decide) (hts _ q498) (fun _ h9 => h9) (sv hO.und) dX0_count_70 ?_
    exact n_iret (Qc := fun _ _ _ _ => True) hx hb hr hlocks (by rfl) dX0_count_73
  by_cases w5 : w = nI 5
  · subst w5
    refine lv_tableIn (off := 73) (tgt := 74) hx hb dX0_count_1 (by decide) (by decide) rfl (by decide) ?_
    refine lv_aload_n hx hb dX0_count_74 rfl (lv_at hl 0 rfl) ?_
    refine va_get (D := D) (ci := 0) (v := .int (nI S.typed)) (C := RX0) (T := TX0) (N := 19) hx hb hts in_X0 hown hK hP 0 rfl rfl 3 (by decide) (hts _ q491) (fun _ h9 => h9) (sv hO.typed) dX0_count_75 ?_
    exact n_iret (Qc := fun _ _ _ _ => True) hx hb hr hlocks (by rfl) dX0_count_78
  refine lv_tableOut (tgt := 79) hx hb dX0_count_1 (by have q0 := lv_neT w0 (show (nI 0).toInt = 0 from rfl); have q1 := lv_neT w1 (show (nI 1).toInt = 1 from rfl); have q2 := lv_neT w2 (show (nI 2).toInt = 2 from rfl); have q3 := lv_neT w3 (show (nI 3).toInt = 3 from rfl); have q4 := lv_neT w4 (show (nI 4).toInt = 4 from rfl); have q5 := lv_neT w5 (show (nI 5).toInt = 5 from rfl); omega) (by decide) ?_
  refine lv_iconst (v := (-1)) hx hb dX0_count_79 (by decide) ?_
  exact n_iret (Qc := fun _ _ _ _ => True) hx hb hr hlocks (by rw [ansCount, if_neg w0, if_neg w1, if_neg w2, if_neg w3, if_neg w4, if_neg w5]) dX0_count_80
