/-! component: methods that only read, 2 -/
set_option maxRecDepth 100000
theorem hd_X3_witnesses : yX3_witnesses.cls ≠ "java/lang/invoke/MethodHandle" ∧ yX3_witnesses.cls ≠ "java/lang/invoke/VarHandle" ∧ (parseMethodDescriptor yX3_witnesses.desc).map (fun d => d.parameters.length) = some 2 := by decide +kernel
/-- X3_witnesses -/
theorem m_X3_witnesses (l : Launch) (D : va_G) (y : Nat → ClassId) (c : Nat → Nat) (J : XJ) (S : St) (hI : StOk S) (hO : XOk S J) (j : Nat) (hj : j < S.ppl) : Met l yX3_witnesses (ws_ yX3_witnesses cX3_witnesses 5 (some .int)) ({ frames := 1, cells := 0, slots := 0, locals := 22 }) (va_Pc [.ref (c 7), .ref (c 1), .int (nI j)] (WR D y (cellsX y c J))) (QcRead (nI (witF S j S.ppl))) 0 0 (fun _ => False) := by
  refine x_start (by decide) (Nat.le_of_ble_eq_true rfl) ?_
  intro p e s m below meth cd ls hx hb hr hts hml hown hlocks hnm hB hl
  have hC := hB.1
  obtain ⟨⟨hK, hN⟩, hP⟩ := hB
  have hown : s.vm.findClass RX3 = some m.cls := hown
  have hl : lv_has ls 5 [(0, .ref (c 7)), (1, .ref (c 1)), (2, .int (nI j))] := hl
  have i1 := hI.str
  have i2 := hI.ppl
  have i3 := hI.now.home j hj
  refine lv_iconst (v := nI 0) hx hb dX3_witnesses_0 (by decide) ?_
  refine lv_istore_n (lv' := [(3, .int (nI 0)), (0, .ref (c 7)), (1, .ref (c 1)), (2, .int (nI j))]) hx hb dX3_witnesses_1 rfl hl (by decide) rfl (fun ls hl => ?_)
  refine lv_iconst (v := nI 0) hx hb dX3_witnesses_2 (by decide) ?_
  refine lv_istore (lv' := [(4, .int (nI 0)), (3, .int (nI 0)), (0, .ref (c 7)), (1, .ref (c 1)), (2, .int (nI j))]) hx hb dX3_witnesses_3 hl (by decide) rfl (fun ls hl => ?_)
  refine w_loop (nL := 5) 5 (fun i => [(0, .ref (c 7)), (1, .ref (c 1)), (2, .int (nI j)), (3, .int (nI (witF S j i))), (4, .int (nI i))]) (fun i => i ≤ S.ppl) (fun i => S.ppl - i) ?_ 0 (Nat.zero_le _) ls (lv_sub hl [2, 3, 4, 1, 0] rfl)
  rintro i hi ih ls hl
  have hl : lv_has ls 5 [(0, .ref (c 7)), (1, .ref (c 1)), (2, .int (nI j)), (3, .int (nI (witF S j i))), (4, .int (nI i))] := hl
  refine lv_iload hx hb dX3_witnesses_5 (lv_at hl 4 rfl) ?_
  refine lv_aload_n hx hb dX3_witnesses_7 rfl (lv_at hl 1 rfl) ?_
  refine va_getN (D := D) (ci := 1) (v := .int (nI S.ppl)) (C := RX1) (T := TX1) (N := 8) hx hb hts in_X1 hown hK hP 1 rfl rfl 5 (by decide) (va_Nw.use rfl (hN _ q333 rfl)) (fun _ h9 => h9) (sv hO.ppl) dX3_witnesses_8 ?_
  refine n_icmp_ge (tgt := 57) hx hb dX3_witnesses_11 (by decide) (by omega) (by omega) (fun h1 => ?_) (fun h1 => ?_)
  · refine lv_iload_n hx hb dX3_witnesses_57 rfl (lv_at hl 3 rfl) ?_
    exact n_iret (Qc := fun _ _ _ _ => True) hx hb hr hlocks (by rw [show i = S.ppl by omega]) dX3_witnesses_58
  have h2 := hI.now.home i (by omega)
  refine n_cut 49 [.int (nI (if i ≠ j ∧ meetF S (S.now (28 + j)) (S.now (28 + i)) = true then 2 ^ i else 0)), .int (nI (witF S j i))] (fun K => ?_) ?_
  · refine lv_iload_n hx hb dX3_witnesses_14 rfl (lv_at hl 3 rfl) ?_
    refine lv_iload hx hb dX3_witnesses_15 (lv_at hl 4 rfl) ?_
    refine lv_iload_n hx hb dX3_witnesses_17 rfl (lv_at hl 2 rfl) ?_
    refine n_icmp_eq (tgt := 48) hx hb dX3_witnesses_18 (by decide) (by omega) (by omega) (fun h3 => ?_) (fun h3 => ?_)
    · refine lv_iconst (v := nI 0) hx hb dX3_witnesses_48 (by decide) ?_
      exact n_top (by rw [if_neg (fun q => q.1 h3)]) K
    refine lv_aload_n hx hb dX3_witnesses_21 rfl (lv_at hl 1 rfl) ?_
    refine lv_aload_n hx hb dX3_witnesses_22 rfl (lv_at hl 0 rfl) ?_
    refine va_get (D := D) (ci := 3) (v := .ref (c 11)) (C := RX3) (T := TX3) (N := 5) hx hb hts in_X3 hown hK hP 7 rfl rfl 3 (by decide) (hts _ q400) (fun _ h9 => h9) rfl dX3_witnesses_23 ?_
    refine lv_iload_n hx hb dX3_witnesses_26 rfl (lv_at hl 2 rfl) ?_
    refine n_iald (v := nI (S.now (28 + j))) hx hb hK hP 11 0 rfl rfl (j := j) (by omega) (by decide) (hO.now.home j (by omega)) dX3_witnesses_27 ?_
    refine lv_aload_n hx hb dX3_witnesses_28 rfl (lv_at hl 0 rfl) ?_
    refine va_get (D := D) (ci := 3) (v := .ref (c 11)) (C := RX3) (T := TX3) (N := 5) hx hb hts in_X3 hown hK hP 7 rfl rfl 3 (by decide) (hts _ q400) (fun _ h9 => h9) rfl dX3_witnesses_29 ?_
    refine lv_iload hx hb dX3_witnesses_32 (lv_at hl 4 rfl) ?_
    refine n_iald (v := nI (S.now (28 + i))) hx hb hK hP 11 0 rfl rfl (j := i) (by omega) (by decide) (hO.now.home i (by omega)) dX3_witnesses_34 ?_
    refine va_callR (va_runV (As := [.int (nI (S.now (28 + j))), .int (nI (S.now (28 + i)))]) (rest := [.int (nI (witF S j i))]) ⟨hx, hb, hml, hown, hts⟩ (m_X1_meet l D y c J S hI hO (S.now (28 + j)) (S.now (28 + i)) (by omega) (by omega)) (cwV 2 hts (lw_V q584 q585 q586 q55 q587) rfl rfl rfl ⟨rfl, hd_X1_meet⟩ ⟨Nat.le_of_ble_eq_true rfl, Nat.le_of_ble_eq_true rfl⟩) (preVR hC hP 1 1 rfl rfl) rfl rfl hl.1 rfl (lv_room (Nat.le_of_ble_eq_true rfl)) dX3_witnesses_35 ⟨Nat.le_of_ble_eq_true rfl, Nat.le_of_ble_eq_true rfl⟩) ?_
    refine z_if_eq (tgt := 48) hx hb dX3_witnesses_38 (by decide) (fun h4 => ?_) (fun h4 => ?_)
    · refine lv_iconst (v := nI 0) hx hb dX3_witnesses_48 (by decide) ?_
      exact n_top (by rw [if_neg (fun q => by rw [h4] at q; exact absurd q.2 (by decide))]) K
    refine lv_iconst (v := nI 1) hx hb dX3_witnesses_41 (by decide) ?_
    refine lv_iload hx hb dX3_witnesses_42 (lv_at hl 4 rfl) ?_
    refine n_shl1 hx hb dX3_witnesses_44 (by omega) ?_
    refine lv_goto (tgt := 49) hx hb dX3_witnesses_45 (by decide) ?_
    exact n_top (by rw [if_pos ⟨h3, h4⟩]) K
  refine n_or hx hb dX3_witnesses_49 ?_
  refine lv_istore_n (lv' := [(3, .int (nI ((witF S j i) ||| (if i ≠ j ∧ meetF S (S.now (28 + j)) (S.now (28 + i)) = true then 2 ^ i else 0)))), (0, .ref (c 7)), (1, .ref (c 1)), (2, .int (nI j)), (4, .int (nI i))]) hx hb dX3_witnesses_50 rfl hl (by decide) rfl (fun ls hl => ?_)
  refine lv_iinc (v := nI (i + 1)) (lv' := [(4, .int (nI (i + 1))), (3, .int (nI ((witF S j i) ||| (if i ≠ j ∧ meetF S (S.now (28 + j)) (S.now (28 + i)) = true then 2 ^ i else 0)))), (0, .ref (c 7)), (1, .ref (c 1)), (2, .int (nI j))]) hx hb dX3_witnesses_51 hl (k := 4) rfl (nI_inc _) (by decide) rfl (fun ls hl => ?_)
  refine lv_goto (tgt := 5) hx hb dX3_witnesses_54 (by decide) ?_
  exact ih (i + 1) (by omega) (by omega) ls (lv_sub hl [2, 3, 4, 1, 0] rfl)
theorem hd_X1_next : yX1_next.cls ≠ "java/lang/invoke/MethodHandle" ∧ yX1_next.cls ≠ "java/lang/invoke/VarHandle" ∧ (parseMethodDescriptor yX1_next.desc).map (fun d => d.parameters.length) = some 2 := by decide +kernel
/-- X1_next -/
theorem m_X1_next (l : Launch) (D : va_G) (y : Nat → ClassId) (c : Nat → Nat) (J : XJ) (S : St) (hI : StOk S) (hO : XOk S J) (met sm : Nat) (hm : met < 256) (hs : sm < 512) : Met l yX1_next (ws_ yX1_next cX1_next 5 (some .int)) ({ frames := 1, cells := 0, slots := 0, locals := 21 }) (va_Pc [.ref (c 1), .int (nI met), .int (nI sm)] (WR D y (cellsX y c J))) (QcRead (nI (nextF S met sm S.str))) 0 0 (fun _ => False) := by
  refine x_start (by decide) (Nat.le_of_ble_eq_true rfl) ?_
  intro p e s m below meth cd ls hx hb hr hts hml hown hlocks hnm hB hl
  have hC := hB.1
  obtain ⟨⟨hK, hN⟩, hP⟩ := hB
  have hown : s.vm.findClass RX1 = some m.cls := hown
  have hl : lv_has ls 5 [(0, .ref (c 1)), (1, .int (nI met)), (2, .int (nI sm))] := hl
  have i1 := hI.str
  refine lv_iload_n hx hb dX1_next_0 rfl (lv_at hl 1 rfl) ?_
  refine lv_istore_n (lv' := [(3, .int (nI met)), (0, .ref (c 1)), (1, .int (nI met)), (2, .int (nI sm))]) hx hb dX1_next_1 rfl hl (by decide) rfl (fun ls hl => ?_)
  refine lv_iconst (v := nI 0) hx hb dX1_next_2 (by decide) ?_
  refine lv_istore (lv' := [(4, .int (nI 0)), (3, .int (nI met)), (0, .ref (c 1)), (1, .int (nI met)), (2, .int (nI sm))]) hx hb dX1_next_3 hl (by decide) rfl (fun ls hl => ?_)
  refine w_loop (nL := 5) 5 (fun i => [(0, .ref (c 1)), (1, .int (nI met)), (2, .int (nI sm)), (3, .int (nI (nextF S met sm i))), (4, .int (nI i))]) (fun i => i ≤ S.str) (fun i => S.str - i) ?_ 0 (Nat.zero_le _) ls (lv_sub hl [2, 3, 4, 1, 0] rfl)
  rintro i hi ih ls hl
  have hl : lv_has ls 5 [(0, .ref (c 1)), (1, .int (nI met)), (2, .int (nI sm)), (3, .int (nI (nextF S met sm i))), (4, .int (nI i))] := hl
  refine lv_iload hx hb dX1_next_5 (lv_at hl 4 rfl) ?_
  refine lv_aload_n hx hb dX1_next_7 rfl (lv_at hl 0 rfl) ?_
  refine va_get (D := D) (ci := 1) (v := .int (nI S.str)) (C := RX1) (T := TX1) (N := 8) hx hb hts in_X1 hown hK hP 1 rfl rfl 1 (by decide) (hts _ q320) (fun _ h9 => h9) (sv hO.str) dX1_next_8 ?_
  refine n_icmp_ge (tgt := 89) hx hb dX1_next_11 (by decide) (by omega) (by omega) (fun h1 => ?_) (fun h1 => ?_)
  · refine lv_iload_n hx hb dX1_next_89 rfl (lv_at hl 3 rfl) ?_
    exact n_iret (Qc := fun _ _ _ _ => True) hx hb hr hlocks (by rw [show i = S.str by omega]) dX1_next_90
  have h2 := hI.one i (by omega)
  have h3 := hI.oth i (by omega)
  have h0 := hI.yds
  refine lv_iload_n hx hb dX1_next_14 rfl (lv_at hl 2 rfl) ?_
  refine lv_iload hx hb dX1_next_15 (lv_at hl 4 rfl) ?_
  refine va_callR (va_runSN (As := [.int (nI sm), .int (nI i)]) (rest := []) ⟨hx, hb, hml, hown, hts⟩ (m_X0_has l sm i (by omega) (by omega)) ⟨va_cnB 2 hts (lw_meth q636) rfl rfl rfl (hN _ q669 rfl) (hts _ q54) hd_X0_has ⟨Nat.le_of_ble_eq_true rfl, Nat.le_of_ble_eq_true rfl⟩, hts _ q635, trivial⟩ pre0 rfl rfl hl.1 rfl (lv_room (Nat.le_of_ble_eq_true rfl)) dX1_next_17 ⟨Nat.le_of_ble_eq_true rfl, Nat.le_of_ble_eq_true rfl⟩) ?_
  refine z_if_eq (tgt := 83) hx hb dX1_next_20 (by decide) (fun h4 => ?_) (fun h4 => ?_)
  · refine lv_iinc (v := nI (i + 1)) (lv' := [(4, .int (nI (i + 1))), (0, .ref (c 1)), (1, .int (nI met)), (2, .int (nI sm)), (3, .int (nI (nextF S met sm i)))]) hx hb dX1_next_83 hl (k := 4) rfl (nI_inc _) (by decide) rfl (fun ls hl => ?_)
    refine lv_goto (tgt := 5) hx hb dX1_next_86 (by decide) ?_
    have e1 : nextF S met sm i = nextF S met sm (i + 1) := by show _ = (if _ then _ else _); rw [if_neg (bnf h4)]
    rw [e1] at hl
    exact ih (i + 1) (by omega) (by omega) ls (lv_sub hl [1, 2, 3, 4, 0] rfl)
  refine n_cut 51 [.int (nI (if met.testBit (S.one i) = true then 2 ^ S.oth i else 0)), .int (nI (nextF S met sm i))] (fun K => ?_) ?_
  · refine lv_iload_n hx hb dX1_next_23 rfl (lv_at hl 3 rfl) ?_
    refine lv_iload_n hx hb dX1_next_24 rfl (lv_at hl 1 rfl) ?_
    refine lv_aload_n hx hb dX1_next_25 rfl (lv_at hl 0 rfl) ?_
    refine va_get (D := D) (ci := 1) (v := .ref (c 2)) (C := RX1) (T := TX1) (N := 8) hx hb hts in_X1 hown hK hP 1 rfl rfl 2 (by decide) (hts _ q323) (fun _ h9 => h9) rfl dX1_next_26 ?_
    refine lv_iload hx hb dX1_next_29 (lv_at hl 4 rfl) ?_
    refine n_iald (v := nI (S.one i)) hx hb hK hP 2 0 rfl rfl (j := i) (by omega) (by decide) (hO.one i (by omega)) dX1_next_31 ?_
    refine va_callR (va_runSN (As := [.int (nI met), .int (nI (S.one i))]) (rest := [.int (nI (nextF S met sm i))]) ⟨hx, hb, hml, hown, hts⟩ (m_X0_has l met (S.one i) (by omega) (by omega)) ⟨va_cnB 2 hts (lw_meth q636) rfl rfl rfl (hN _ q669 rfl) (hts _ q54) hd_X0_has ⟨Nat.le_of_ble_eq_true rfl, Nat.le_of_ble_eq_true rfl⟩, hts _ q635, trivial⟩ pre0 rfl rfl hl.1 rfl (lv_room (Nat.le_of_ble_eq_true rfl)) dX1_next_32 ⟨Nat.le_of_ble_eq_true rfl, Nat.le_of_ble_eq_true rfl⟩) ?_
    refine z_if_eq (tgt := 50) hx hb dX1_next_35 (by decide) (fun h5 => ?_) (fun h5 => ?_)
    · refine lv_iconst (v := nI 0) hx hb dX1_next_50 (by decide) ?_
      exact n_top (by rw [if_neg (bnf h5)]) K
    refine lv_iconst (v := nI 1) hx hb dX1_next_38 (by decide) ?_
    refine lv_aload_n hx hb dX1_next_39 rfl (lv_at hl 0 rfl) ?_
    refine va_get (D := D) (ci := 1) (v := .ref (c 3)) (C := RX1) (T := TX1) (N := 8) hx hb hts in_X1 hown hK hP 1 rfl rfl 3 (by decide) (hts _ q326) (fun _ h9 => h9) rfl dX1_next_40 ?_
    refine lv_iload hx hb dX1_next_43 (lv_at hl 4 rfl) ?_
    refine n_iald (v := nI (S.oth i)) hx hb hK hP 3 0 rfl rfl (j := i) (by omega) (by decide) (hO.oth i (by omega)) dX1_next_45 ?_
    refine n_shl1 hx hb dX1_next_46 (by omega) ?_
    refine lv_goto (tgt := 51) hx hb dX1_next_47 (by decide) ?_
    exact n_top (by rw [if_pos h5]) K
  refine n_or hx hb dX1_next_51 ?_
  refine lv_istore_n (lv' := [(3, .int (nI ((nextF S met sm i) ||| (if met.testBit (S.one i) = true then 2 ^ S.oth i else 0)))), (0, .ref (c 1)), (1, .int (nI met)), (2, .int (nI sm)), (4, .int (nI i))]) hx hb dX1_next_52 rfl hl (by decide) rfl (fun ls hl => ?_)
  refine n_cut 81 [.int (nI (if met.testBit (S.oth i) = true then 2 ^ S.one i else 0)), .int (nI ((nextF S met sm i) ||| (if met.testBit (S.one i) = true then 2 ^ S.oth i else 0)))] (fun K => ?_) ?_
  · refine lv_iload_n hx hb dX1_next_53 rfl (lv_at hl 0 rfl) ?_
    refine lv_iload_n hx hb dX1_next_54 rfl (lv_at hl 2 rfl) ?_
    refine lv_aload_n hx hb dX1_next_55 rfl (lv_at hl 1 rfl) ?_
    refine va_get (D := D) (ci := 1) (v := .ref (c 3)) (C := RX1) (T := TX1) (N := 8) hx hb hts in_X1 hown hK hP 1 rfl rfl 3 (by decide) (hts _ q326) (fun _ h9 => h9) rfl dX1_next_56 ?_
    refine lv_iload hx hb dX1_next_59 (lv_at hl 4 rfl) ?_
    refine n_iald (v := nI (S.oth i)) hx hb hK hP 3 0 rfl rfl (j := i) (by omega) (by decide) (hO.oth i (by omega)) dX1_next_61 ?_
    refine va_callR (va_runSN (As := [.int (nI met), .int (nI (S.oth i))]) (rest := [.int (nI ((nextF S met sm i) ||| (if met.testBit (S.one i) = true then 2 ^ S.oth i else 0)))]) ⟨hx, hb, hml, hown, hts⟩ (m_X0_has l met (S.oth i) (by omega) (by omega)) ⟨va_cnB 2 hts (lw_meth q636) rfl rfl rfl (hN _ q669 rfl) (hts _ q54) hd_X0_has ⟨Nat.le_of_ble_eq_true rfl, Nat.le_of_ble_eq_true rfl⟩, hts _ q635, trivial⟩ pre0 rfl rfl hl.1 rfl (lv_room (Nat.le_of_ble_eq_true rfl)) dX1_next_62 ⟨Nat.le_of_ble_eq_true rfl, Nat.le_of_ble_eq_true rfl⟩) ?_
    refine z_if_eq (tgt := 80) hx hb dX1_next_65 (by decide) (fun h6 => ?_) (fun h6 => ?_)
    · refine lv_iconst (v := nI 0) hx hb dX1_next_80 (by decide) ?_
      exact n_top (by rw [if_neg (bnf h6)]) K
    refine lv_iconst (v := nI 1) hx hb dX1_next_68 (by decide) ?_
    refine lv_aload_n hx hb dX1_next_69 rfl (lv_at hl 1 rfl) ?_
    refine va_get (D := D) (ci := 1) (v := .ref (c 2)) (C := RX1) (T := TX1) (N := 8) hx hb hts in_X1 hown hK hP 1 rfl rfl 2 (by decide) (hts _ q323) (fun _ h9 => h9) rfl dX1_next_70 ?_
    refine lv_iload hx hb dX1_next_73 (lv_at hl 4 rfl) ?_
    refine n_iald (v := nI (S.one i)) hx hb hK hP 2 0 rfl rfl (j := i) (by omega) (by decide) (hO.one i (by omega)) dX1_next_75 ?_
    refine n_shl1 hx hb dX1_next_76 (by omega) ?_
    refine lv_goto (tgt := 81) hx hb dX1_next_77 (by decide) ?_
    exact n_top (by rw [if_pos h6]) K
  refine n_or hx hb dX1_next_81 ?_
  refine lv_istore_n (lv' := [(3, .int (nI (((nextF S met sm i) ||| (if met.testBit (S.one i) = true then 2 ^ S.oth i else 0)) ||| (if met.testBit (S.oth i) = true then 2 ^ S.one i else 0)))), (0, .ref (c 1)), (1, .int (nI met)), (2, .int (nI sm)), (4, .int (nI i))]) hx hb dX1_next_82 rfl hl (by decide) rfl (fun ls hl => ?_)
  refine lv_iinc (v := nI (i + 1)) (lv' := [(4, .int (nI (i + 1))), (3, .int (nI (((nextF S met sm i) ||| (if met.testBit (S.one i) = true then 2 ^ S.oth i else 0)) ||| (if met.testBit (S.oth i) = true then 2 ^ S.one i else 0)))), (0, .ref (c 1)), (1, .int (nI met)), (2, .int (nI sm))]) hx hb dX1_next_83 hl (k := 4) rfl (nI_inc _) (by decide) rfl (fun ls hl => ?_)
  refine lv_goto (tgt := 5) hx hb dX1_next_86 (by decide) ?_
  have e1 : ((nextF S met sm i) ||| (if met.testBit (S.one i) = true then 2 ^ S.oth i else 0)) ||| (if met.testBit (S.oth i) = true then 2 ^ S.one i else 0) = nextF S met sm (i + 1) := by show _ = (if _ then _ else _); rw [if_pos h4]
  rw [e1] at hl
  exact ih (i + 1) (by omega) (by omega) ls (lv_sub hl [2, 3, 4, 1, 0] rfl)
theorem hd_X1_far : yX1_far.cls ≠ "java/lang/invoke/MethodHandle" ∧ yX1_far.cls ≠ "java/lang/invoke/VarHandle" ∧ (parseMethodDescriptor yX1_far.desc).map (fun d => d.parameters.length) = some 3 := by decide +kernel
/-- X1_far -/
theorem m_X1_far (l : Launch) (D : va_G) (y : Nat → ClassId) (c : Nat → Nat) (J : XJ) (S : St) (hI : StOk S) (hO : XOk S J) (a b sm : Nat) (ha : a < 8) (hb : b < 8) (hs : sm < 512) : Met l yX1_far (ws_ yX1_far cX1_far 6 (some .int)) ({ frames := 2, cells := 0, slots := 0, locals := 45 }) (va_Pc [.ref (c 1), .int (nI a), .int (nI b), .int (nI sm)] (WR D y (cellsX y c J))) (QcRead (farF S a b sm)) 0 0 (fun _ => False) := by
  refine x_start (by decide) (Nat.le_of_ble_eq_true rfl) ?_
  intro p e s m below meth cd ls hx hb hr hts hml hown hlocks hnm hB hl
  have hC := hB.1
  obtain ⟨⟨hK, hN⟩, hP⟩ := hB
  have hown : s.vm.findClass RX1 = some m.cls := hown
  have hl : lv_has ls 6 [(0, .ref (c 1)), (1, .int (nI a)), (2, .int (nI b)), (3, .int (nI sm))] := hl
  have i1 := hI.str
  refine lv_iconst (v := nI 1) hx hb dX1_far_0 (by decide) ?_
  refine lv_iload_n hx hb dX1_far_1 rfl (lv_at hl 1 rfl) ?_
  refine n_shl1 hx hb dX1_far_2 (by omega) ?_
  refine lv_istore (lv' := [(4, .int (nI (2 ^ a))), (0, .ref (c 1)), (1, .int (nI a)), (2, .int (nI b)), (3, .int (nI sm))]) hx hb dX1_far_3 hl (by decide) rfl (fun ls hl => ?_)
  refine lv_iconst (v := nI 0) hx hb dX1_far_5 (by decide) ?_
  refine lv_istore (lv' := [(5, .int (nI 0)), (4, .int (nI (2 ^ a))), (0, .ref (c 1)), (1, .int (nI a)), (2, .int (nI b)), (3, .int (nI sm))]) hx hb dX1_far_6 hl (by decide) rfl (fun ls hl => ?_)
  refine w_loop (nL := 6) 8 (fun n => [(0, .ref (c 1)), (1, .int (nI a)), (2, .int (nI b)), (3, .int (nI sm)), (4, .int (nI (metF S a sm n))), (5, .int (nI n))]) (fun n => n ≤ 8 ∧ farF S a b sm = scanF (fun n => (metF S a sm n).testBit b) n (8 - n)) (fun n => 8 - n) ?_ 0 (⟨by omega, rfl⟩) ls (lv_sub hl [2, 3, 4, 5, 1, 0] rfl)
  rintro n hi ih ls hl
  have hl : lv_has ls 6 [(0, .ref (c 1)), (1, .int (nI a)), (2, .int (nI b)), (3, .int (nI sm)), (4, .int (nI (metF S a sm n))), (5, .int (nI n))] := hl
  obtain ⟨hn, he⟩ := hi
  have h2 := metF_lt hI (some := sm) ha n
  refine lv_iload hx hb dX1_far_8 (lv_at hl 5 rfl) ?_
  refine lv_bipush (v := nI 8) hx hb dX1_far_10 (by decide) ?_
  refine n_icmp_ge (tgt := 42) hx hb dX1_far_12 (by decide) (by omega) (by omega) (fun h1 => ?_) (fun h1 => ?_)
  · refine lv_bipush (v := (-9)) hx hb dX1_far_42 (by decide) ?_
    exact n_iret (Qc := fun _ _ _ _ => True) hx hb hr hlocks (by rw [he, show 8 - n = 0 by omega]; rfl) dX1_far_44
  rw [show 8 - n = (8 - (n + 1)) + 1 by omega] at he
  refine lv_iload hx hb dX1_far_15 (lv_at hl 4 rfl) ?_
  refine lv_iload_n hx hb dX1_far_17 rfl (lv_at hl 2 rfl) ?_
  refine va_callR (va_runSN (As := [.int (nI (metF S a sm n)), .int (nI b)]) (rest := []) ⟨hx, hb, hml, hown, hts⟩ (m_X0_has l (metF S a sm n) b (by omega) (by omega)) ⟨va_cnB 2 hts (lw_meth q636) rfl rfl rfl (hN _ q669 rfl) (hts _ q54) hd_X0_has ⟨Nat.le_of_ble_eq_true rfl, Nat.le_of_ble_eq_true rfl⟩, hts _ q635, trivial⟩ pre0 rfl rfl hl.1 rfl (lv_room (Nat.le_of_ble_eq_true rfl)) dX1_far_18 ⟨Nat.le_of_ble_eq_true rfl, Nat.le_of_ble_eq_true rfl⟩) ?_
  refine z_if_eq (tgt := 27) hx hb dX1_far_21 (by decide) (fun h3 => ?_) (fun h3 => ?_)
  rotate_left
  · refine lv_iload hx hb dX1_far_24 (lv_at hl 5 rfl) ?_
    exact n_iret (Qc := fun _ _ _ _ => True) hx hb hr hlocks (by rw [he]; show _ = (if _ then _ else _); rw [if_pos h3]) dX1_far_26
  refine lv_aload_n hx hb dX1_far_27 rfl (lv_at hl 0 rfl) ?_
  refine lv_iload hx hb dX1_far_28 (lv_at hl 4 rfl) ?_
  refine lv_iload_n hx hb dX1_far_30 rfl (lv_at hl 3 rfl) ?_
  refine va_callR (va_runV (As := [.int (nI (metF S a sm n)), .int (nI sm)]) (rest := []) ⟨hx, hb, hml, hown, hts⟩ (m_X1_next l D y c J S hI hO (metF S a sm n) sm (by omega) (by omega)) (cwV 2 hts (lw_V q670 q671 q672 q55 q673) rfl rfl rfl ⟨rfl, hd_X1_next⟩ ⟨Nat.le_of_ble_eq_true rfl, Nat.le_of_ble_eq_true rfl⟩) (preVR hC hP 1 1 rfl rfl) rfl rfl hl.1 rfl (lv_room (Nat.le_of_ble_eq_true rfl)) dX1_far_31 ⟨Nat.le_of_ble_eq_true rfl, Nat.le_of_ble_eq_true rfl⟩) ?_
  refine lv_istore (lv' := [(4, .int (nI (nextF S (metF S a sm n) sm S.str))), (0, .ref (c 1)), (1, .int (nI a)), (2, .int (nI b)), (3, .int (nI sm)), (5, .int (nI n))]) hx hb dX1_far_34 hl (by decide) rfl (fun ls hl => ?_)
  refine lv_iinc (v := nI (n + 1)) (lv' := [(5, .int (nI (n + 1))), (4, .int (nI (nextF S (metF S a sm n) sm S.str))), (0, .ref (c 1)), (1, .int (nI a)), (2, .int (nI b)), (3, .int (nI sm))]) hx hb dX1_far_36 hl (k := 5) rfl (nI_inc _) (by decide) rfl (fun ls hl => ?_)
  refine lv_goto (tgt := 8) hx hb dX1_far_39 (by decide) ?_
  exact ih (n + 1) (⟨by omega, by rw [he]; show (if _ then _ else _) = _; rw [if_neg (bnf h3)]⟩) (by omega) ls (lv_sub hl [2, 3, 4, 5, 1, 0] rfl)
theorem hd_X0_isStreet : yX0_isStreet.cls ≠ "java/lang/invoke/MethodHandle" ∧ yX0_isStreet.cls ≠ "java/lang/invoke/VarHandle" ∧ (parseMethodDescriptor yX0_isStreet.desc).map (fun d => d.parameters.length) = some 1 := by decide +kernel
/-- X0_isStreet -/
theorem m_X0_isStreet (l : Launch) (D : va_G) (y : Nat → ClassId) (c : Nat → Nat) (J : XJ) (S : St) (hI : StOk S) (hO : XOk S J) (v : Int32) : Met l yX0_isStreet (ws_ yX0_isStreet cX0_isStreet 2 (some .boolean)) ({ frames := 1, cells := 0, slots := 0, locals := 22 }) (va_Pc [.ref (c 0), .int v] (WR D y (cellsX y c J))) (QcRead (zb (ixI v S.str))) 0 0 (fun _ => False) := by
  refine x_start (by decide) (Nat.le_of_ble_eq_true rfl) ?_
  intro p e s m below meth cd ls hx hb hr hts hml hown hlocks hnm hB hl
  have hC := hB.1
  obtain ⟨⟨hK, hN⟩, hP⟩ := hB
  have hown : s.vm.findClass RX0 = some m.cls := hown
  have hl : lv_has ls 2 [(0, .ref (c 0)), (1, .int v)] := hl
  have i1 := hI.str
  refine lv_iload_n hx hb dX0_isStreet_0 rfl (lv_at hl 1 rfl) ?_
  refine lv_iconst (v := nI 0) hx hb dX0_isStreet_1 (by decide) ?_
  refine lv_aload_n hx hb dX0_isStreet_2 rfl (lv_at hl 0 rfl) ?_
  refine va_get (D := D) (ci := 0) (v := .ref (c 1)) (C := RX0) (T := TX0) (N := 19) hx hb hts in_X0 hown hK hP 0 rfl rfl 0 (by decide) (hts _ q485) (fun _ h9 => h9) rfl dX0_isStreet_3 ?_
  refine va_getN (D := D) (ci := 1) (v := .int (nI S.str)) (C := RX1) (T := TX1) (N := 8) hx hb hts in_X1 hown hK hP 1 rfl rfl 1 (by decide) (va_Nw.use rfl (hN _ q322 rfl)) (fun _ h9 => h9) (sv hO.str) dX0_isStreet_6 ?_
  refine lv_iconst (v := nI 1) hx hb dX0_isStreet_9 (by decide) ?_
  refine lv_isub hx hb dX0_isStreet_10 ?_
  refine va_callR (va_runS (As := [.int v, .int (nI 0), .int ((nI S.str) - (nI 1))]) (rest := []) ⟨hx, hb, hml, hown, hts⟩ (m_X0_isIn l v (nI 0) ((nI S.str) - (nI 1))) (va_cwS 3 hts (lw_S q81 q82 q54 q83) rfl rfl rfl hd_X0_isIn ⟨Nat.le_of_ble_eq_true rfl, Nat.le_of_ble_eq_true rfl⟩) pre0 rfl rfl hl.1 rfl (lv_room (Nat.le_of_ble_eq_true rfl)) dX0_isStreet_11 ⟨Nat.le_of_ble_eq_true rfl, Nat.le_of_ble_eq_true rfl⟩) ?_
  exact n_zret (Qc := fun _ _ _ _ => True) hx hb hr hlocks (by rw [inI_ix (by omega)]) dX0_isStreet_14
theorem hd_X0_isCitizen : yX0_isCitizen.cls ≠ "java/lang/invoke/MethodHandle" ∧ yX0_isCitizen.cls ≠ "java/lang/invoke/VarHandle" ∧ (parseMethodDescriptor yX0_isCitizen.desc).map (fun d => d.parameters.length) = some 1 := by decide +kernel
/-- X0_isCitizen -/
theorem m_X0_isCitizen (l : Launch) (D : va_G) (y : Nat → ClassId) (c : Nat → Nat) (J : XJ) (S : St) (hI : StOk S) (hO : XOk S J) (v : Int32) : Met l yX0_isCitizen (ws_ yX0_isCitizen cX0_isCitizen 2 (some .boolean)) ({ frames := 1, cells := 0, slots := 0, locals := 22 }) (va_Pc [.ref (c 0), .int v] (WR D y (cellsX y c J))) (QcRead (zb (ixI v S.ppl))) 0 0 (fun _ => False) := by
  refine x_start (by decide) (Nat.le_of_ble_eq_true rfl) ?_
  intro p e s m below meth cd ls hx hb hr hts hml hown hlocks hnm hB hl
  have hC := hB.1
  obtain ⟨⟨hK, hN⟩, hP⟩ := hB
  have hown : s.vm.findClass RX0 = some m.cls := hown
  have hl : lv_has ls 2 [(0, .ref (c 0)), (1, .int v)] := hl
  have i1 := hI.ppl
  refine lv_iload_n hx hb dX0_isCitizen_0 rfl (lv_at hl 1 rfl) ?_
  refine lv_iconst (v := nI 0) hx hb dX0_isCitizen_1 (by decide) ?_
  refine lv_aload_n hx hb dX0_isCitizen_2 rfl (lv_at hl 0 rfl) ?_
  refine va_get (D := D) (ci := 0) (v := .ref (c 1)) (C := RX0) (T := TX0) (N := 19) hx hb hts in_X0 hown hK hP 0 rfl rfl 0 (by decide) (hts _ q485) (fun _ h9 => h9) rfl dX0_isCitizen_3 ?_
  refine va_getN (D := D) (ci := 1) (v := .int (nI S.ppl)) (C := RX1) (T := TX1) (N := 8) hx hb hts in_X1 hown hK hP 1 rfl rfl 5 (by decide) (va_Nw.use rfl (hN _ q335 rfl)) (fun _ h9 => h9) (sv hO.ppl) dX0_isCitizen_6 ?_
  refine lv_iconst (v := nI 1) hx hb dX0_isCitizen_9 (by decide) ?_
  refine lv_isub hx hb dX0_isCitizen_10 ?_
  refine va_callR (va_runS (As := [.int v, .int (nI 0), .int ((nI S.ppl) - (nI 1))]) (rest := []) ⟨hx, hb, hml, hown, hts⟩ (m_X0_isIn l v (nI 0) ((nI S.ppl) - (nI 1))) (va_cwS 3 hts (lw_S q81 q82 q54 q83) rfl rfl rfl hd_X0_isIn ⟨Nat.le_of_ble_eq_true rfl, Nat.le_of_ble_eq_true rfl⟩) pre0 rfl rfl hl.1 rfl (lv_room (Nat.le_of_ble_eq_true rfl)) dX0_isCitizen_11 ⟨Nat.le_of_ble_eq_true rfl, Nat.le_of_ble_eq_true rfl⟩) ?_
  exact n_zret (Qc := fun _ _ _ _ => True) hx hb hr hlocks (by rw [inI_ix (by omega)]) dX0_isCitizen_14
theorem hd_X0_areYards : yX0_areYards.cls ≠ "java/lang/invoke/MethodHandle" ∧ yX0_areYards.cls ≠ "java/lang/invoke/VarHandle" ∧ (parseMethodDescriptor yX0_areYards.desc).map (fun d => d.parameters.length) = some 2 := by decide +kernel
/-- X0_areYards -/
theorem m_X0_areYards (l : Launch) (D : va_G) (y : Nat → ClassId) (c : Nat → Nat) (J : XJ) (S : St) (hI : StOk S) (hO : XOk S J) (a b : Int32) : Met l yX0_areYards (ws_ yX0_areYards cX0_areYards 3 (some .boolean)) ({ frames := 1, cells := 0, slots := 0, locals := 22 }) (va_Pc [.ref (c 0), .int a, .int b] (WR D y (cellsX y c J))) (QcRead (zb (arY S a b))) 0 0 (fun _ => False) := by
  refine x_start (by decide) (Nat.le_of_ble_eq_true rfl) ?_
  intro p e s m below meth cd ls hx hb hr hts hml hown hlocks hnm hB hl
  have hC := hB.1
  obtain ⟨⟨hK, hN⟩, hP⟩ := hB
  have hown : s.vm.findClass RX0 = some m.cls := hown
  have hl : lv_has ls 3 [(0, .ref (c 0)), (1, .int a), (2, .int b)] := hl
  have i1 := hI.yds
  refine n_cut 44 [.int (zb (arY S a b))] (fun K => ?_) ?_
  · refine lv_iload_n hx hb dX0_areYards_0 rfl (lv_at hl 1 rfl) ?_
    refine lv_iconst (v := nI 0) hx hb dX0_areYards_1 (by decide) ?_
    refine lv_aload_n hx hb dX0_areYards_2 rfl (lv_at hl 0 rfl) ?_
    refine va_get (D := D) (ci := 0) (v := .ref (c 1)) (C := RX0) (T := TX0) (N := 19) hx hb hts in_X0 hown hK hP 0 rfl rfl 0 (by decide) (hts _ q485) (fun _ h9 => h9) rfl dX0_areYards_3 ?_
    refine va_getN (D := D) (ci := 1) (v := .int (nI S.yds)) (C := RX1) (T := TX1) (N := 8) hx hb hts in_X1 hown hK hP 1 rfl rfl 0 (by decide) (va_Nw.use rfl (hN _ q319 rfl)) (fun _ h9 => h9) (sv hO.yds) dX0_areYards_6 ?_
    refine lv_iconst (v := nI 1) hx hb dX0_areYards_9 (by decide) ?_
    refine lv_isub hx hb dX0_areYards_10 ?_
    refine va_callR (va_runS (As := [.int a, .int (nI 0), .int ((nI S.yds) - (nI 1))]) (rest := []) ⟨hx, hb, hml, hown, hts⟩ (m_X0_isIn l a (nI 0) ((nI S.yds) - (nI 1))) (va_cwS 3 hts (lw_S q81 q82 q54 q83) rfl rfl rfl hd_X0_isIn ⟨Nat.le_of_ble_eq_true rfl, Nat.le_of_ble_eq_true rfl⟩) pre0 rfl rfl hl.1 rfl (lv_room (Nat.le_of_ble_eq_true rfl)) dX0_areYards_11 ⟨Nat.le_of_ble_eq_true rfl, Nat.le_of_ble_eq_true rfl⟩) ?_
    refine z_if_eq (tgt := 43) hx hb dX0_areYards_14 (by decide) (fun h1 => ?_) (fun h1 => ?_)
    · refine lv_iconst (v := nI 0) hx hb dX0_areYards_43 (by decide) ?_
      exact n_top (by rw [inI_ix (by omega)] at h1; simp [arY, h1, zb, nI_0]) K
    refine lv_iload_n hx hb dX0_areYards_17 rfl (lv_at hl 2 rfl) ?_
    refine lv_iconst (v := nI 0) hx hb dX0_areYards_18 (by decide) ?_
    refine lv_aload_n hx hb dX0_areYards_19 rfl (lv_at hl 0 rfl) ?_
    refine va_get (D := D) (ci := 0) (v := .ref (c 1)) (C := RX0) (T := TX0) (N := 19) hx hb hts in_X0 hown hK hP 0 rfl rfl 0 (by decide) (hts _ q485) (fun _ h9 => h9) rfl dX0_areYards_20 ?_
    refine va_getN (D := D) (ci := 1) (v := .int (nI S.yds)) (C := RX1) (T := TX1) (N := 8) hx hb hts in_X1 hown hK hP 1 rfl rfl 0 (by decide) (va_Nw.use rfl (hN _ q319 rfl)) (fun _ h9 => h9) (sv hO.yds) dX0_areYards_23 ?_
    refine lv_iconst (v := nI 1) hx hb dX0_areYards_26 (by decide) ?_
    refine lv_isub hx hb dX0_areYards_27 ?_
    refine va_callR (va_runS (As := [.int b, .int (nI 0), .int ((nI S.yds) - (nI 1))]) (rest := []) ⟨hx, hb, hml, hown, hts⟩ (m_X0_isIn l b (nI 0) ((nI S.yds) - (nI 1))) (va_cwS 3 hts (lw_S q81 q82 q54 q83) rfl rfl rfl hd_X0_isIn ⟨Nat.le_of_ble_eq_true rfl, Nat.le_of_ble_eq_true rfl⟩) pre0 rfl rfl hl.1 rfl (lv_room (Nat.le_of_ble_eq_true rfl)) dX0_areYards_28 ⟨Nat.le_of_ble_eq_true rfl, Nat.le_of_ble_eq_true rfl⟩) ?_
    refine z_if_eq (tgt := 43) hx hb dX0_areYards_31 (by decide) (fun h2 => ?_) (fun h2 => ?_)
    · refine lv_iconst (v := nI 0) hx hb dX0_areYards_43 (by decide) ?_
      exact n_top (by rw [inI_ix (by omega)] at h2; simp [arY, h2, zb, nI_0]) K
    refine lv_iload_n hx hb dX0_areYards_34 rfl (lv_at hl 1 rfl) ?_
    refine lv_iload_n hx hb dX0_areYards_35 rfl (lv_at hl 2 rfl) ?_
    refine lv_icmp_eq (tgt := 43) hx hb dX0_areYards_36 (by decide) (fun h3 => ?_) (fun h3 => ?_)
    · refine lv_iconst (v := nI 0) hx hb dX0_areYards_43 (by decide) ?_
      exact n_top (by simp [arY, h3, zb, nI_0]) K
    refine lv_iconst (v := nI 1) hx hb dX0_areYards_39 (by decide) ?_
    refine lv_goto (tgt := 44) hx hb dX0_areYards_40 (by decide) ?_
    exact n_top (by rw [inI_ix (by omega)] at h1 h2; rw [show arY S a b = true by simp [arY, h1, h2, h3]]; decide) K
  exact n_zret (Qc := fun _ _ _ _ => True) hx hb hr hlocks (rfl) dX0_areYards_44
theorem hd_X0_street : yX0_street.cls ≠ "java/lang/invoke/MethodHandle" ∧ yX0_street.cls ≠ "java/lang/invoke/VarHandle" ∧ (parseMethodDescriptor yX0_street.desc).map (fun d => d.parameters.length) = some 2 := by decide +kernel
/-- X0_street -/
theorem m_X0_street (l : Launch) (D : va_G) (y : Nat → ClassId) (c : Nat → Nat) (J : XJ) (S : St) (hI : StOk S) (hO : XOk S J) (v w : Int32) : Met l yX0_street (ws_ yX0_street cX0_street 3 (some .int)) ({ frames := 2, cells := 0, slots := 0, locals := 43 }) (va_Pc [.ref (c 0), .int v, .int w] (WR D y (cellsX y c J))) (QcRead (ansStreet S v w)) 0 0 (fun _ => False) := by
  refine x_start (by decide) (Nat.le_of_ble_eq_true rfl) ?_
  intro p e s m below meth cd ls hx hb hr hts hml hown hlocks hnm hB hl
  have hC := hB.1
  obtain ⟨⟨hK, hN⟩, hP⟩ := hB
  have hown : s.vm.findClass RX0 = some m.cls := hown
  have hl : lv_has ls 3 [(0, .ref (c 0)), (1, .int v), (2, .int w)] := hl
  have i1 := hI.str
  refine lv_aload_n hx hb dX0_street_0 rfl (lv_at hl 0 rfl) ?_
  refine lv_iload_n hx hb dX0_street_1 rfl (lv_at hl 1 rfl) ?_
  refine va_callR (va_runV (As := [.int v]) (rest := []) ⟨hx, hb, hml, hown, hts⟩ (m_X0_isStreet l D y c J S hI hO v) (cwV 1 hts (lw_V q559 q561 qs10 q54 q562) rfl rfl rfl ⟨rfl, hd_X0_isStreet⟩ ⟨Nat.le_of_ble_eq_true rfl, Nat.le_of_ble_eq_true rfl⟩) (preVR hC hP 0 0 rfl rfl) rfl rfl hl.1 rfl (lv_room (Nat.le_of_ble_eq_true rfl)) dX0_street_2 ⟨Nat.le_of_ble_eq_true rfl, Nat.le_of_ble_eq_true rfl⟩) ?_
  refine z_if_ne (tgt := 10) hx hb dX0_street_5 (by decide) (fun h1 => ?_) (fun h1 => ?_)
  rotate_left
  · refine lv_iconst (v := (-1)) hx hb dX0_street_8 (by decide) ?_
    exact n_iret (Qc := fun _ _ _ _ => True) hx hb hr hlocks (by rw [ansStreet, if_neg (bnf h1)]) dX0_street_9
  have h0 := h1
  obtain ⟨j, hj, rfl⟩ := ixI_of h1
  refine lv_iload_n hx hb dX0_street_10 rfl (lv_at hl 2 rfl) ?_
  by_cases w0 : w = nI 0
  · subst w0
    refine lv_tableIn (off := 41) (tgt := 52) hx hb dX0_street_11 (by decide) (by decide) rfl (by decide) ?_
    refine lv_aload_n hx hb dX0_street_52 rfl (lv_at hl 0 rfl) ?_
    refine va_get (D := D) (ci := 0) (v := .ref (c 1)) (C := RX0) (T := TX0) (N := 19) hx hb hts in_X0 hown hK hP 0 rfl rfl 0 (by decide) (hts _ q485) (fun _ h9 => h9) rfl dX0_street_53 ?_
    refine va_getN (D := D) (ci := 1) (v := .ref (c 2)) (C := RX1) (T := TX1) (N := 8) hx hb hts in_X1 hown hK hP 1 rfl rfl 2 (by decide) (va_Nw.use rfl (hN _ q325 rfl)) (fun _ h9 => h9) rfl dX0_street_56 ?_
    refine lv_iload_n hx hb dX0_street_59 rfl (lv_at hl 1 rfl) ?_
    refine n_iald (v := nI (S.one j)) hx hb hK hP 2 0 rfl rfl (j := j) (by omega) (by decide) (hO.one j (by omega)) dX0_street_60 ?_
    exact n_iret (Qc := fun _ _ _ _ => True) hx hb hr hlocks (by rw [ansStreet, if_pos h0, idx_nI (by omega)]; rfl) dX0_street_61
  by_cases w1 : w = nI 1
  · subst w1
    refine lv_tableIn (off := 51) (tgt := 62) hx hb dX0_street_11 (by decide) (by decide) rfl (by decide) ?_
    refine lv_aload_n hx hb dX0_street_62 rfl (lv_at hl 0 rfl) ?_
    refine va_get (D := D) (ci := 0) (v := .ref (c 1)) (C := RX0) (T := TX0) (N := 19) hx hb hts in_X0 hown hK hP 0 rfl rfl 0 (by decide) (hts _ q485) (fun _ h9 => h9) rfl dX0_street_63 ?_
    refine va_getN (D := D) (ci := 1) (v := .ref (c 3)) (C := RX1) (T := TX1) (N := 8) hx hb hts in_X1 hown hK hP 1 rfl rfl 3 (by decide) (va_Nw.use rfl (hN _ q328 rfl)) (fun _ h9 => h9) rfl dX0_street_66 ?_
    refine lv_iload_n hx hb dX0_street_69 rfl (lv_at hl 1 rfl) ?_
    refine n_iald (v := nI (S.oth j)) hx hb hK hP 3 0 rfl rfl (j := j) (by omega) (by decide) (hO.oth j (by omega)) dX0_street_70 ?_
    exact n_iret (Qc := fun _ _ _ _ => True) hx hb hr hlocks (by rw [ansStreet, if_pos h0, idx_nI (by omega)]; rfl) dX0_street_71
  by_cases w2 : w = nI 2
  · subst w2
    refine lv_tableIn (off := 61) (tgt := 72) hx hb dX0_street_11 (by decide) (by decide) rfl (by decide) ?_
    refine lv_aload_n hx hb dX0_street_72 rfl (lv_at hl 0 rfl) ?_
    refine va_get (D := D) (ci := 0) (v := .ref (c 7)) (C := RX0) (T := TX0) (N := 19) hx hb hts in_X0 hown hK hP 0 rfl rfl 5 (by decide) (hts _ q496) (fun _ h9 => h9) rfl dX0_street_73 ?_
    refine va_getN (D := D) (ci := 3) (v := .ref (c 8)) (C := RX3) (T := TX3) (N := 5) hx hb hts in_X3 hown hK hP 7 rfl rfl 0 (by decide) (va_Nw.use rfl (hN _ q394 rfl)) (fun _ h9 => h9) rfl dX0_street_76 ?_
    refine lv_iload_n hx hb dX0_street_79 rfl (lv_at hl 1 rfl) ?_
    refine n_bald (v := nI (S.now (1 + j))) hx hb hK hP 8 1 rfl rfl (j := j) (by omega) (by decide) (hO.now.seen j (by omega)) dX0_street_80 ?_
    exact n_iret (Qc := fun _ _ _ _ => True) hx hb hr hlocks (by rw [ansStreet, if_pos h0, idx_nI (by omega)]; rfl) dX0_street_81
  by_cases w3 : w = nI 3
  · subst w3
    refine lv_tableIn (off := 71) (tgt := 82) hx hb dX0_street_11 (by decide) (by decide) rfl (by decide) ?_
    refine lv_aload_n hx hb dX0_street_82 rfl (lv_at hl 0 rfl) ?_
    refine va_get (D := D) (ci := 0) (v := .ref (c 7)) (C := RX0) (T := TX0) (N := 19) hx hb hts in_X0 hown hK hP 0 rfl rfl 5 (by decide) (hts _ q496) (fun _ h9 => h9) rfl dX0_street_83 ?_
    refine va_getN (D := D) (ci := 3) (v := .ref (c 9)) (C := RX3) (T := TX3) (N := 5) hx hb hts in_X3 hown hK hP 7 rfl rfl 1 (by decide) (va_Nw.use rfl (hN _ q397 rfl)) (fun _ h9 => h9) rfl dX0_street_86 ?_
    refine lv_iload_n hx hb dX0_street_89 rfl (lv_at hl 1 rfl) ?_
    refine n_bald (v := nI (S.now (10 + j))) hx hb hK hP 9 1 rfl rfl (j := j) (by omega) (by decide) (hO.now.hidden j (by omega)) dX0_street_90 ?_
    exact n_iret (Qc := fun _ _ _ _ => True) hx hb hr hlocks (by rw [ansStreet, if_pos h0, idx_nI (by omega)]; rfl) dX0_street_91
  by_cases w4 : w = nI 4
  · subst w4
    refine lv_tableIn (off := 81) (tgt := 92) hx hb dX0_street_11 (by decide) (by decide) rfl (by decide) ?_
    refine lv_aload_n hx hb dX0_street_92 rfl (lv_at hl 0 rfl) ?_
    refine va_get (D := D) (ci := 0) (v := .ref (c 7)) (C := RX0) (T := TX0) (N := 19) hx hb hts in_X0 hown hK hP 0 rfl rfl 5 (by decide) (hts _ q496) (fun _ h9 => h9) rfl dX0_street_93 ?_
    refine va_getN (D := D) (ci := 3) (v := .ref (c 10)) (C := RX3) (T := TX3) (N := 5) hx hb hts in_X3 hown hK hP 7 rfl rfl 2 (by decide) (va_Nw.use rfl (hN _ q399 rfl)) (fun _ h9 => h9) rfl dX0_street_96 ?_
    refine lv_iload_n hx hb dX0_street_99 rfl (lv_at hl 1 rfl) ?_
    refine n_bald (v := nI (S.now (19 + j))) hx hb hK hP 10 1 rfl rfl (j := j) (by omega) (by decide) (hO.now.faked j (by omega)) dX0_street_100 ?_
    exact n_iret (Qc := fun _ _ _ _ => True) hx hb hr hlocks (by rw [ansStreet, if_pos h0, idx_nI (by omega)]; rfl) dX0_street_101
  by_cases w5 : w = nI 5
  · subst w5
    refine lv_tableIn (off := 91) (tgt := 102) hx hb dX0_street_11 (by decide) (by decide) rfl (by decide) ?_
    refine lv_aload_n hx hb dX0_street_102 rfl (lv_at hl 0 rfl) ?_
    refine va_get (D := D) (ci := 0) (v := .ref (c 7)) (C := RX0) (T := TX0) (N := 19) hx hb hts in_X0 hown hK hP 0 rfl rfl 5 (by decide) (hts _ q496) (fun _ h9 => h9) rfl dX0_street_103 ?_
    refine lv_iload_n hx hb dX0_street_106 rfl (lv_at hl 1 rfl) ?_
    refine va_callR (va_runV (As := [.int (nI j)]) (rest := []) ⟨hx, hb, hml, hown, hts⟩ (m_X3_width l D y c J S hI hO j (by omega)) (cwV 1 hts (lw_V q563 q564 q565 q57 q566) rfl rfl rfl ⟨rfl, hd_X3_width⟩ ⟨Nat.le_of_ble_eq_true rfl, Nat.le_of_ble_eq_true rfl⟩) (preVR hC hP 3 7 rfl rfl) rfl rfl hl.1 rfl (lv_room (Nat.le_of_ble_eq_true rfl)) dX0_street_107 ⟨Nat.le_of_ble_eq_true rfl, Nat.le_of_ble_eq_true rfl⟩) ?_
    exact n_iret (Qc := fun _ _ _ _ => True) hx hb hr hlocks (by rw [ansStreet, if_pos h0, idx_nI (by omega)]; rfl) dX0_street_110
  by_cases w6 : w = nI 6
  · subst w6
    refine lv_tableIn (off := 100) (tgt := 111) hx hb dX0_street_11 (by decide) (by decide) rfl (by decide) ?_
    refine lv_aload_n hx hb dX0_street_111 rfl (lv_at hl 0 rfl) ?_
    refine va_get (D := D) (ci := 0) (v := .ref (c 7)) (C := RX0) (T := TX0) (N := 19) hx hb hts in_X0 hown hK hP 0 rfl rfl 5 (by decide) (hts _ q496) (fun _ h9 => h9) rfl dX0_street_112 ?_
    refine lv_aload_n hx hb dX0_street_115 rfl (lv_at hl 0 rfl) ?_
    refine va_get (D := D) (ci := 0) (v := .ref (c 1)) (C := RX0) (T := TX0) (N := 19) hx hb hts in_X0 hown hK hP 0 rfl rfl 0 (by decide) (hts _ q485) (fun _ h9 => h9) rfl dX0_street_116 ?_
    refine lv_iload_n hx hb dX0_street_119 rfl (lv_at hl 1 rfl) ?_
    refine va_callR (va_runV (As := [.ref (c 1), .int (nI j)]) (rest := []) ⟨hx, hb, hml, hown, hts⟩ (m_X3_living l D y c J S hI hO j (by omega)) (cwV 2 hts (lw_V q568 q569 q570 q57 q571) rfl rfl rfl ⟨rfl, hd_X3_living⟩ ⟨Nat.le_of_ble_eq_true rfl, Nat.le_of_ble_eq_true rfl⟩) (preVR hC hP 3 7 rfl rfl) rfl rfl hl.1 rfl (lv_room (Nat.le_of_ble_eq_true rfl)) dX0_street_120 ⟨Nat.le_of_ble_eq_true rfl, Nat.le_of_ble_eq_true rfl⟩) ?_
    exact n_iret (Qc := fun _ _ _ _ => True) hx hb hr hlocks (by rw [ansStreet, if_pos h0, idx_nI (by omega)]; rfl) dX0_street_123
  refine lv_tableOut (tgt := 124) hx hb dX0_street_11 (by have q0 := lv_neT w0 (show (nI 0).toInt = 0 from rfl); have q1 := lv_neT w1 (show (nI 1).toInt = 1 from rfl); have q2 := lv_neT w2 (show (nI 2).toInt = 2 from rfl); have q3 := lv_neT w3 (show (nI 3).toInt = 3 from rfl); have q4 := lv_neT w4 (show (nI 4).toInt = 4 from rfl); have q5 := lv_neT w5 (show (nI 5).toInt = 5 from rfl); have q6 := lv_neT w6 (show (nI 6).toInt = 6 from rfl); omega) (by decide) ?_
  refine lv_iconst (v := (-1)) hx hb dX0_street_124 (by decide) ?_
  exact n_iret (Qc := fun _ _ _ _ => True) hx hb hr hlocks (by rw [ansStreet, if_pos h0, if_neg w0, if_neg w1, if_neg w2, if_neg w3, if_neg w4, if_neg w5, if_neg w6]) dX0_street_125
theorem hd_X0_citizen : yX0_citizen.cls ≠ "java/lang/invoke/MethodHandle" ∧ yX0_citizen.cls ≠ "java/lang/invoke/VarHandle" ∧ (parseMethodDescriptor yX0_citizen.desc).map (fun d => d.parameters.length) = some 2 := by decide +kernel
/-- X0_citizen -/
theorem m_X0_citizen (l : Launch) (D : va_G) (y : Nat → ClassId) (c : Nat → Nat) (J : XJ) (S : St) (hI : StOk S) (hO : XOk S J) (v w : Int32) : Met l yX0_citizen (ws_ yX0_citizen cX0_citizen 3 (some .int)) ({ frames := 2, cells := 0, slots := 0, locals := 46 }) (va_Pc [.ref (c 0), .int v, .int w] (WR D y (cellsX y c J))) (QcRead (ansCitizen S v w)) 0 0 (fun _ => False) := by
  refine x_start (by decide) (Nat.le_of_ble_eq_true rfl) ?_
  intro p e s m below meth cd ls hx hb hr hts hml hown hlocks hnm hB hl
  have hC := hB.1
  obtain ⟨⟨hK, hN⟩, hP⟩ := hB
  have hown : s.vm.findClass RX0 = some m.cls := hown
  have hl : lv_has ls 3 [(0, .ref (c 0)), (1, .int v), (2, .int w)] := hl
  have i1 := hI.ppl
  refine lv_aload_n hx hb dX0_citizen_0 rfl (lv_at hl 0 rfl) ?_
  refine lv_iload_n hx hb dX0_citizen_1 rfl (lv_at hl 1 rfl) ?_
  refine va_callR (va_runV (As := [.int v]) (rest := []) ⟨hx, hb, hml, hown, hts⟩ (m_X0_isCitizen l D y c J S hI hO v) (cwV 1 hts (lw_V q576 q578 qs11 q54 q579) rfl rfl rfl ⟨rfl, hd_X0_isCitizen⟩ ⟨Nat.le_of_ble_eq_true rfl, Nat.le_of_ble_eq_true rfl⟩) (preVR hC hP 0 0 rfl rfl) rfl rfl hl.1 rfl (lv_room (Nat.le_of_ble_eq_true rfl)) dX0_citizen_2 ⟨Nat.le_of_ble_eq_true rfl, Nat.le_of_ble_eq_true rfl⟩) ?_
  refine z_if_ne (tgt := 10) hx hb dX0_citizen_5 (by decide) (fun h1 => ?_) (fun h1 => ?_)
  rotate_left
  · refine lv_iconst (v := (-1)) hx hb dX0_citizen_8 (by decide) ?_
    exact n_iret (Qc := fun _ _ _ _ => True) hx hb hr hlocks (by rw [ansCitizen, if_neg (bnf h1)]) dX0_citizen_9
  have h0 := h1
  obtain ⟨j, hj, rfl⟩ := ixI_of h1
  refine lv_iload_n hx hb dX0_citizen_10 rfl (lv_at hl 2 rfl) ?_
  by_cases w0 : w = nI 0
  · subst w0
    refine lv_tableIn (off := 25) (tgt := 36) hx hb dX0_citizen_11 (by decide) (by decide) rfl (by decide) ?_
    refine lv_aload_n hx hb dX0_citizen_36 rfl (lv_at hl 0 rfl) ?_
    refine va_get (D := D) (ci := 0) (v := .ref (c 7)) (C := RX0) (T := TX0) (N := 19) hx hb hts in_X0 hown hK hP 0 rfl rfl 5 (by decide) (hts _ q496) (fun _ h9 => h9) rfl dX0_citizen_37 ?_
    refine va_getN (D := D) (ci := 3) (v := .ref (c 11)) (C := RX3) (T := TX3) (N := 5) hx hb hts in_X3 hown hK hP 7 rfl rfl 3 (by decide) (va_Nw.use rfl (hN _ q401 rfl)) (fun _ h9 => h9) rfl dX0_citizen_40 ?_
    refine lv_iload_n hx hb dX0_citizen_43 rfl (lv_at hl 1 rfl) ?_
    refine n_iald (v := nI (S.now (28 + j))) hx hb hK hP 11 0 rfl rfl (j := j) (by omega) (by decide) (hO.now.home j (by omega)) dX0_citizen_44 ?_
    exact n_iret (Qc := fun _ _ _ _ => True) hx hb hr hlocks (by rw [ansCitizen, if_pos h0, idx_nI (by omega)]; rfl) dX0_citizen_45
  by_cases w1 : w = nI 1
  · subst w1
    refine lv_tableIn (off := 35) (tgt := 46) hx hb dX0_citizen_11 (by decide) (by decide) rfl (by decide) ?_
    refine lv_aload_n hx hb dX0_citizen_46 rfl (lv_at hl 0 rfl) ?_
    refine va_get (D := D) (ci := 0) (v := .ref (c 1)) (C := RX0) (T := TX0) (N := 19) hx hb hts in_X0 hown hK hP 0 rfl rfl 0 (by decide) (hts _ q485) (fun _ h9 => h9) rfl dX0_citizen_47 ?_
    refine va_getN (D := D) (ci := 1) (v := .ref (c 6)) (C := RX1) (T := TX1) (N := 8) hx hb hts in_X1 hown hK hP 1 rfl rfl 7 (by decide) (va_Nw.use rfl (hN _ q341 rfl)) (fun _ h9 => h9) rfl dX0_citizen_50 ?_
    refine lv_iload_n hx hb dX0_citizen_53 rfl (lv_at hl 1 rfl) ?_
    refine n_iald (v := nI (S.wnt j)) hx hb hK hP 6 0 rfl rfl (j := j) (by omega) (by decide) (hO.wnt j (by omega)) dX0_citizen_54 ?_
    exact n_iret (Qc := fun _ _ _ _ => True) hx hb hr hlocks (by rw [ansCitizen, if_pos h0, idx_nI (by omega)]; rfl) dX0_citizen_55
  by_cases w2 : w = nI 2
  · subst w2
    refine lv_tableIn (off := 45) (tgt := 56) hx hb dX0_citizen_11 (by decide) (by decide) rfl (by decide) ?_
    refine lv_aload_n hx hb dX0_citizen_56 rfl (lv_at hl 0 rfl) ?_
    refine va_get (D := D) (ci := 0) (v := .ref (c 7)) (C := RX0) (T := TX0) (N := 19) hx hb hts in_X0 hown hK hP 0 rfl rfl 5 (by decide) (hts _ q496) (fun _ h9 => h9) rfl dX0_citizen_57 ?_
    refine lv_aload_n hx hb dX0_citizen_60 rfl (lv_at hl 0 rfl) ?_
    refine va_get (D := D) (ci := 0) (v := .ref (c 1)) (C := RX0) (T := TX0) (N := 19) hx hb hts in_X0 hown hK hP 0 rfl rfl 0 (by decide) (hts _ q485) (fun _ h9 => h9) rfl dX0_citizen_61 ?_
    refine lv_iload_n hx hb dX0_citizen_64 rfl (lv_at hl 1 rfl) ?_
    refine va_callR (va_runV (As := [.ref (c 1), .int (nI j)]) (rest := []) ⟨hx, hb, hml, hown, hts⟩ (m_X3_witnesses l D y c J S hI hO j (by omega)) (cwV 2 hts (lw_V q580 q581 q582 q57 q583) rfl rfl rfl ⟨rfl, hd_X3_witnesses⟩ ⟨Nat.le_of_ble_eq_true rfl, Nat.le_of_ble_eq_true rfl⟩) (preVR hC hP 3 7 rfl rfl) rfl rfl hl.1 rfl (lv_room (Nat.le_of_ble_eq_true rfl)) dX0_citizen_65 ⟨Nat.le_of_ble_eq_true rfl, Nat.le_of_ble_eq_true rfl⟩) ?_
    exact n_iret (Qc := fun _ _ _ _ => True) hx hb hr hlocks (by rw [ansCitizen, if_pos h0, idx_nI (by omega)]; rfl) dX0_citizen_68
  refine lv_tableOut (tgt := 69) hx hb dX0_citizen_11 (by have q0 := lv_neT w0 (show (nI 0).toInt = 0 from rfl); have q1 := lv_neT w1 (show (nI 1).toInt = 1 from rfl); have q2 := lv_neT w2 (show (nI 2).toInt = 2 from rfl); omega) (by decide) ?_
  refine lv_iconst (v := (-1)) hx hb dX0_citizen_69 (by decide) ?_
  exact n_iret (Qc := fun _ _ _ _ => True) hx hb hr hlocks (by rw [ansCitizen, if_pos h0, if_neg w0, if_neg w1, if_neg w2]) dX0_citizen_70
theorem hd_X0_widthsOf : yX0_widthsOf.cls ≠ "java/lang/invoke/MethodHandle" ∧ yX0_widthsOf.cls ≠ "java/lang/invoke/VarHandle" ∧ (parseMethodDescriptor yX0_widthsOf.desc).map (fun d => d.parameters.length) = some 1 := by decide +kernel
/-- X0_widthsOf -/
theorem m_X0_widthsOf (l : Launch) (D : va_G) (y : Nat → ClassId) (c : Nat → Nat) (J : XJ) (S : St) (hI : StOk S) (hO : XOk S J) (set : Nat) (hs : set < 512) : Met l yX0_widthsOf (ws_ yX0_widthsOf cX0_widthsOf 4 (some .int)) ({ frames := 2, cells := 0, slots := 0, locals := 42 }) (va_Pc [.ref (c 0), .int (nI set)] (WR D y (cellsX y c J))) (QcRead (nI (sumF S set S.str))) 0 0 (fun _ => False) := by
  refine x_start (by decide) (Nat.le_of_ble_eq_true rfl) ?_
  intro p e s m below meth cd ls hx hb hr hts hml hown hlocks hnm hB hl
  have hC := hB.1
  obtain ⟨⟨hK, hN⟩, hP⟩ := hB
  have hown : s.vm.findClass RX0 = some m.cls := hown
  have hl : lv_has ls 4 [(0, .ref (c 0)), (1, .int (nI set))] := hl
  have i1 := hI.str
  refine lv_iconst (v := nI 0) hx hb dX0_widthsOf_0 (by decide) ?_
  refine lv_istore_n (lv' := [(2, .int (nI 0)), (0, .ref (c 0)), (1, .int (nI set))]) hx hb dX0_widthsOf_1 rfl hl (by decide) rfl (fun ls hl => ?_)
  refine lv_iconst (v := nI 0) hx hb dX0_widthsOf_2 (by decide) ?_
  refine lv_istore_n (lv' := [(3, .int (nI 0)), (2, .int (nI 0)), (0, .ref (c 0)), (1, .int (nI set))]) hx hb dX0_widthsOf_3 rfl hl (by decide) rfl (fun ls hl => ?_)
  refine w_loop (nL := 4) 4 (fun i => [(0, .ref (c 0)), (1, .int (nI set)), (2, .int (nI (sumF S set i))), (3, .int (nI i))]) (fun i => i ≤ S.str) (fun i => S.str - i) ?_ 0 (Nat.zero_le _) ls (lv_sub hl [2, 3, 1, 0] rfl)
  rintro i hi ih ls hl
  have hl : lv_has ls 4 [(0, .ref (c 0)), (1, .int (nI set)), (2, .int (nI (sumF S set i))), (3, .int (nI i))] := hl
  refine lv_iload_n hx hb dX0_widthsOf_4 rfl (lv_at hl 3 rfl) ?_
  refine lv_aload_n hx hb dX0_widthsOf_5 rfl (lv_at hl 0 rfl) ?_
  refine va_get (D := D) (ci := 0) (v := .ref (c 1)) (C := RX0) (T := TX0) (N := 19) hx hb hts in_X0 hown hK hP 0 rfl rfl 0 (by decide) (hts _ q485) (fun _ h9 => h9) rfl dX0_widthsOf_6 ?_
  refine va_getN (D := D) (ci := 1) (v := .int (nI S.str)) (C := RX1) (T := TX1) (N := 8) hx hb hts in_X1 hown hK hP 1 rfl rfl 1 (by decide) (va_Nw.use rfl (hN _ q322 rfl)) (fun _ h9 => h9) (sv hO.str) dX0_widthsOf_9 ?_
  refine n_icmp_ge (tgt := 44) hx hb dX0_widthsOf_12 (by decide) (by omega) (by omega) (fun h1 => ?_) (fun h1 => ?_)
  · refine lv_iload_n hx hb dX0_widthsOf_44 rfl (lv_at hl 2 rfl) ?_
    exact n_iret (Qc := fun _ _ _ _ => True) hx hb hr hlocks (by rw [show i = S.str by omega]) dX0_widthsOf_45
  refine n_cut 36 [.int (nI (if set.testBit i = true then wid S.now i else 0)), .int (nI (sumF S set i))] (fun K => ?_) ?_
  · refine lv_iload_n hx hb dX0_widthsOf_15 rfl (lv_at hl 2 rfl) ?_
    refine lv_iload_n hx hb dX0_widthsOf_16 rfl (lv_at hl 1 rfl) ?_
    refine lv_iload_n hx hb dX0_widthsOf_17 rfl (lv_at hl 3 rfl) ?_
    refine va_callR (va_runS (As := [.int (nI set), .int (nI i)]) (rest := [.int (nI (sumF S set i))]) ⟨hx, hb, hml, hown, hts⟩ (m_X0_has l set i (by omega) (by omega)) (va_cwS 2 hts (lw_S q634 q635 q54 q636) rfl rfl rfl hd_X0_has ⟨Nat.le_of_ble_eq_true rfl, Nat.le_of_ble_eq_true rfl⟩) pre0 rfl rfl hl.1 rfl (lv_room (Nat.le_of_ble_eq_true rfl)) dX0_widthsOf_18 ⟨Nat.le_of_ble_eq_true rfl, Nat.le_of_ble_eq_true rfl⟩) ?_
    refine z_if_eq (tgt := 35) hx hb dX0_widthsOf_21 (by decide) (fun h3 => ?_) (fun h3 => ?_)
    · refine lv_iconst (v := nI 0) hx hb dX0_widthsOf_35 (by decide) ?_
      exact n_top (by rw [if_neg (bnf h3)]) K
    refine lv_aload_n hx hb dX0_widthsOf_24 rfl (lv_at hl 0 rfl) ?_
    refine va_get (D := D) (ci := 0) (v := .ref (c 7)) (C := RX0) (T := TX0) (N := 19) hx hb hts in_X0 hown hK hP 0 rfl rfl 5 (by decide) (hts _ q496) (fun _ h9 => h9) rfl dX0_widthsOf_25 ?_
    refine lv_iload_n hx hb dX0_widthsOf_28 rfl (lv_at hl 3 rfl) ?_
    refine va_callR (va_runV (As := [.int (nI i)]) (rest := [.int (nI (sumF S set i))]) ⟨hx, hb, hml, hown, hts⟩ (m_X3_width l D y c J S hI hO i (by omega)) (cwV 1 hts (lw_V q563 q564 q565 q57 q566) rfl rfl rfl ⟨rfl, hd_X3_width⟩ ⟨Nat.le_of_ble_eq_true rfl, Nat.le_of_ble_eq_true rfl⟩) (preVR hC hP 3 7 rfl rfl) rfl rfl hl.1 rfl (lv_room (Nat.le_of_ble_eq_true rfl)) dX0_widthsOf_29 ⟨Nat.le_of_ble_eq_true rfl, Nat.le_of_ble_eq_true rfl⟩) ?_
    refine lv_goto (tgt := 36) hx hb dX0_widthsOf_32 (by decide) ?_
    exact n_top (by rw [if_pos h3]) K
  refine n_add hx hb dX0_widthsOf_36 ?_
  refine lv_istore_n (lv' := [(2, .int (nI (sumF S set i + (if set.testBit i = true then wid S.now i else 0)))), (0, .ref (c 0)), (1, .int (nI set)), (3, .int (nI i))]) hx hb dX0_widthsOf_37 rfl hl (by decide) rfl (fun ls hl => ?_)
  refine lv_iinc (v := nI (i + 1)) (lv' := [(3, .int (nI (i + 1))), (2, .int (nI (sumF S set i + (if set.testBit i = true then wid S.now i else 0)))), (0, .ref (c 0)), (1, .int (nI set))]) hx hb dX0_widthsOf_38 hl (k := 3) rfl (nI_inc _) (by decide) rfl (fun ls hl => ?_)
  refine lv_goto (tgt := 4) hx hb dX0_widthsOf_41 (by decide) ?_
  exact ih (i + 1) (by omega) (by omega) ls (lv_sub hl [2, 3, 1, 0] rfl)
theorem hd_X0_allStreets : yX0_allStreets.cls ≠ "java/lang/invoke/MethodHandle" ∧ yX0_allStreets.cls ≠ "java/lang/invoke/VarHandle" ∧ (parseMethodDescriptor yX0_allStreets.desc).map (fun d => d.parameters.length) = some 0 := by decide +kernel
/-- X0_allStreets -/
theorem m_X0_allStreets (l : Launch) (D : va_G) (y : Nat → ClassId) (c : Nat → Nat) (J : XJ) (S : St) (hI : StOk S) (hO : XOk S J)  : Met l yX0_allStreets (ws_ yX0_allStreets cX0_allStreets 1 (some .int)) ({ frames := 0, cells := 0, slots := 0, locals := 0 }) (va_Pc [.ref (c 0)] (WR D y (cellsX y c J))) (QcRead (nI (2 ^ S.str - 1))) 0 0 (fun _ => False) := by
  refine x_start (by decide) (Nat.le_of_ble_eq_true rfl) ?_
  intro p e s m below meth cd ls hx hb hr hts hml hown hlocks hnm hB hl
  have hC := hB.1
  obtain ⟨⟨hK, hN⟩, hP⟩ := hB
  have hown : s.vm.findClass RX0 = some m.cls := hown
  have hl : lv_has ls 1 [(0, .ref (c 0))] := hl
  have i1 := hI.str
  have i2 := p512 i1
  have i3 := Nat.two_pow_pos S.str
  refine lv_iconst (v := nI 1) hx hb dX0_allStreets_0 (by decide) ?_
  refine lv_aload_n hx hb dX0_allStreets_1 rfl (lv_at hl 0 rfl) ?_
  refine va_get (D := D) (ci := 0) (v := .ref (c 1)) (C := RX0) (T := TX0) (N := 19) hx hb hts in_X0 hown hK hP 0 rfl rfl 0 (by decide) (hts _ q485) (fun _ h9 => h9) rfl dX0_allStreets_2 ?_
  refine va_getN (D := D) (ci := 1) (v := .int (nI S.str)) (C := RX1) (T := TX1) (N := 8) hx hb hts in_X1 hown hK hP 1 rfl rfl 1 (by decide) (va_Nw.use rfl (hN _ q322 rfl)) (fun _ h9 => h9) (sv hO.str) dX0_allStreets_5 ?_
  refine n_shl1 hx hb dX0_allStreets_8 (by omega) ?_
  refine lv_iconst (v := nI 1) hx hb dX0_allStreets_9 (by decide) ?_
  refine n_sub hx hb dX0_allStreets_10 (by omega) ?_
  exact n_iret (Qc := fun _ _ _ _ => True) hx hb hr hlocks (rfl) dX0_allStreets_11
theorem hd_X0_hiding : yX0_hiding.cls ≠ "java/lang/invoke/MethodHandle" ∧ yX0_hiding.cls ≠ "java/lang/invoke/VarHandle" ∧ (parseMethodDescriptor yX0_hiding.desc).map (fun d => d.parameters.length) = some 0 := by decide +kernel
/-- X0_hiding -/
theorem m_X0_hiding (l : Launch) (D : va_G) (y : Nat → ClassId) (c : Nat → Nat) (J : XJ) (S : St) (hI : StOk S) (hO : XOk S J)  : Met l yX0_hiding (ws_ yX0_hiding cX0_hiding 3 (some .int)) ({ frames := 0, cells := 0, slots := 0, locals := 0 }) (va_Pc [.ref (c 0)] (WR D y (cellsX y c J))) (QcRead (nI (hidF S S.str))) 0 0 (fun _ => False) := by
  refine x_start (by decide) (Nat.le_of_ble_eq_true rfl) ?_
  intro p e s m below meth cd ls hx hb hr hts hml hown hlocks hnm hB hl
  have hC := hB.1
  obtain ⟨⟨hK, hN⟩, hP⟩ := hB
  have hown : s.vm.findClass RX0 = some m.cls := hown
  have hl : lv_has ls 3 [(0, .ref (c 0))] := hl
  have i1 := hI.str
  refine lv_iconst (v := nI 0) hx hb dX0_hiding_0 (by decide) ?_
  refine lv_istore_n (lv' := [(1, .int (nI 0)), (0, .ref (c 0))]) hx hb dX0_hiding_1 rfl hl (by decide) rfl (fun ls hl => ?_)
  refine lv_iconst (v := nI 0) hx hb dX0_hiding_2 (by decide) ?_
  refine lv_istore_n (lv' := [(2, .int (nI 0)), (1, .int (nI 0)), (0, .ref (c 0))]) hx hb dX0_hiding_3 rfl hl (by decide) rfl (fun ls hl => ?_)
  refine w_loop (nL := 3) 4 (fun i => [(0, .ref (c 0)), (1, .int (nI (hidF S i))), (2, .int (nI i))]) (fun i => i ≤ S.str) (fun i => S.str - i) ?_ 0 (Nat.zero_le _) ls (lv_sub hl [2, 1, 0] rfl)
  rintro i hi ih ls hl
  have hl : lv_has ls 3 [(0, .ref (c 0)), (1, .int (nI (hidF S i))), (2, .int (nI i))] := hl
  refine lv_iload_n hx hb dX0_hiding_4 rfl (lv_at hl 2 rfl) ?_
  refine lv_aload_n hx hb dX0_hiding_5 rfl (lv_at hl 0 rfl) ?_
  refine va_get (D := D) (ci := 0) (v := .ref (c 1)) (C := RX0) (T := TX0) (N := 19) hx hb hts in_X0 hown hK hP 0 rfl rfl 0 (by decide) (hts _ q485) (fun _ h9 => h9) rfl dX0_hiding_6 ?_
  refine va_getN (D := D) (ci := 1) (v := .int (nI S.str)) (C := RX1) (T := TX1) (N := 8) hx hb hts in_X1 hown hK hP 1 rfl rfl 1 (by decide) (va_Nw.use rfl (hN _ q322 rfl)) (fun _ h9 => h9) (sv hO.str) dX0_hiding_9 ?_
  refine n_icmp_ge (tgt := 41) hx hb dX0_hiding_12 (by decide) (by omega) (by omega) (fun h1 => ?_) (fun h1 => ?_)
  · refine lv_iload_n hx hb dX0_hiding_41 rfl (lv_at hl 1 rfl) ?_
    exact n_iret (Qc := fun _ _ _ _ => True) hx hb hr hlocks (by rw [show i = S.str by omega]) dX0_hiding_42
  have h2 := hI.now.hidden i (by omega)
  refine n_cut 33 [.int (nI (if 0 < S.now (10 + i) then 1 else 0)), .int (nI (hidF S i))] (fun K => ?_) ?_
  · refine lv_iload_n hx hb dX0_hiding_15 rfl (lv_at hl 1 rfl) ?_
    refine lv_aload_n hx hb dX0_hiding_16 rfl (lv_at hl 0 rfl) ?_
    refine va_get (D := D) (ci := 0) (v := .ref (c 7)) (C := RX0) (T := TX0) (N := 19) hx hb hts in_X0 hown hK hP 0 rfl rfl 5 (by decide) (hts _ q496) (fun _ h9 => h9) rfl dX0_hiding_17 ?_
    refine va_getN (D := D) (ci := 3) (v := .ref (c 9)) (C := RX3) (T := TX3) (N := 5) hx hb hts in_X3 hown hK hP 7 rfl rfl 1 (by decide) (va_Nw.use rfl (hN _ q397 rfl)) (fun _ h9 => h9) rfl dX0_hiding_20 ?_
    refine lv_iload_n hx hb dX0_hiding_23 rfl (lv_at hl 2 rfl) ?_
    refine n_bald (v := nI (S.now (10 + i))) hx hb hK hP 9 1 rfl rfl (j := i) (by omega) (by decide) (hO.now.hidden i (by omega)) dX0_hiding_24 ?_
    refine n_if_le (tgt := 32) hx hb dX0_hiding_25 (by decide) (by omega) (fun h3 => ?_) (fun h3 => ?_)
    · refine lv_iconst (v := nI 0) hx hb dX0_hiding_32 (by decide) ?_
      exact n_top (by rw [if_neg (by omega)]) K
    refine lv_iconst (v := nI 1) hx hb dX0_hiding_28 (by decide) ?_
    refine lv_goto (tgt := 33) hx hb dX0_hiding_29 (by decide) ?_
    exact n_top (by rw [if_pos h3]) K
  refine n_add hx hb dX0_hiding_33 ?_
  refine lv_istore_n (lv' := [(1, .int (nI (hidF S i + (if 0 < S.now (10 + i) then 1 else 0)))), (0, .ref (c 0)), (2, .int (nI i))]) hx hb dX0_hiding_34 rfl hl (by decide) rfl (fun ls hl => ?_)
  refine lv_iinc (v := nI (i + 1)) (lv' := [(2, .int (nI (i + 1))), (1, .int (nI (hidF S i + (if 0 < S.now (10 + i) then 1 else 0)))), (0, .ref (c 0))]) hx hb dX0_hiding_35 hl (k := 2) rfl (nI_inc _) (by decide) rfl (fun ls hl => ?_)
  refine lv_goto (tgt := 4) hx hb dX0_hiding_38 (by decide) ?_
  exact ih (i + 1) (by omega) (by omega) ls (lv_sub hl [2, 1, 0] rfl)
theorem hd_X0_now : yX0_now.cls ≠ "java/lang/invoke/MethodHandle" ∧ yX0_now.cls ≠ "java/lang/invoke/VarHandle" ∧ (parseMethodDescriptor yX0_now.desc).map (fun d => d.parameters.length) = some 1 := by decide +kernel
/-- X0_now -/
theorem m_X0_now (l : Launch) (D : va_G) (y : Nat → ClassId) (c : Nat → Nat) (J : XJ) (S : St) (hI : StOk S) (hO : XOk S J) (w : Int32) : Met l yX0_now (ws_ yX0_now cX0_now 2 (some .int)) ({ frames := 3, cells := 0, slots := 0, locals := 65 }) (va_Pc [.ref (c 0), .int w] (WR D y (cellsX y c J))) (QcRead (ansNow S w)) 0 0 (fun _ => False) := by
  refine x_start (by decide) (Nat.le_of_ble_eq_true rfl) ?_
  intro p e s m below meth cd ls hx hb hr hts hml hown hlocks hnm hB hl
  have hC := hB.1
  obtain ⟨⟨hK, hN⟩, hP⟩ := hB
  have hown : s.vm.findClass RX0 = some m.cls := hown
  have hl : lv_has ls 2 [(0, .ref (c 0)), (1, .int w)] := hl
  have i1 := hI.str
  have i2 := p512 i1
  have i3 := Nat.two_pow_pos S.str
  have i4 := hI.now.night
  refine lv_iload_n hx hb dX0_now_0 rfl (lv_at hl 1 rfl) ?_
  by_cases w0 : w = nI 0
  · subst w0
    refine lv_tableIn (off := 27) (tgt := 28) hx hb dX0_now_1 (by decide) (by decide) rfl (by decide) ?_
    refine lv_aload_n hx hb dX0_now_28 rfl (lv_at hl 0 rfl) ?_
    refine va_get (D := D) (ci := 0) (v := .ref (c 7)) (C := RX0) (T := TX0) (N := 19) hx hb hts in_X0 hown hK hP 0 rfl rfl 5 (by decide) (hts _ q496) (fun _ h9 => h9) rfl dX0_now_29 ?_
    refine va_getN (D := D) (ci := 3) (v := .int (nI (S.now 0))) (C := RX3) (T := TX3) (N := 5) hx hb hts in_X3 hown hK hP 7 rfl rfl 4 (by decide) (va_Nw.use rfl (hN _ q403 rfl)) (fun _ h9 => h9) (sv hO.now.night) dX0_now_32 ?_
    refine n_if_eq (tgt := 42) hx hb dX0_now_35 (by decide) (by omega) (fun h1 => ?_) (fun h1 => ?_)
    · refine lv_iconst (v := nI 0) hx hb dX0_now_42 (by decide) ?_
      exact n_iret (Qc := fun _ _ _ _ => True) hx hb hr hlocks (by rw [ansNow, if_pos rfl, h1]) dX0_now_43
    refine lv_iconst (v := nI 1) hx hb dX0_now_38 (by decide) ?_
    refine lv_goto (tgt := 43) hx hb dX0_now_39 (by decide) ?_
    exact n_iret (Qc := fun _ _ _ _ => True) hx hb hr hlocks (by rw [ansNow, if_pos rfl, show S.now 0 = 1 by omega]) dX0_now_43
  by_cases w1 : w = nI 1
  · subst w1
    refine lv_tableIn (off := 43) (tgt := 44) hx hb dX0_now_1 (by decide) (by decide) rfl (by decide) ?_
    refine lv_aload_n hx hb dX0_now_44 rfl (lv_at hl 0 rfl) ?_
    refine lv_aload_n hx hb dX0_now_45 rfl (lv_at hl 0 rfl) ?_
    refine va_callR (va_runV (As := []) (rest := [.ref (c 0)]) ⟨hx, hb, hml, hown, hts⟩ (m_X0_allStreets l D y c J S hI hO) (cwV 0 hts (lw_V q626 q628 qs13 q54 q629) rfl rfl rfl ⟨rfl, hd_X0_allStreets⟩ ⟨Nat.le_of_ble_eq_true rfl, Nat.le_of_ble_eq_true rfl⟩) (preVR hC hP 0 0 rfl rfl) rfl rfl hl.1 rfl (lv_room (Nat.le_of_ble_eq_true rfl)) dX0_now_46 ⟨Nat.le_of_ble_eq_true rfl, Nat.le_of_ble_eq_true rfl⟩) ?_
    refine va_callR (va_runV (As := [.int (nI (2 ^ S.str - 1))]) (rest := []) ⟨hx, hb, hml, hown, hts⟩ (m_X0_widthsOf l D y c J S hI hO (2 ^ S.str - 1) (by omega)) (cwV 1 hts (lw_V q630 q632 qs14 q54 q633) rfl rfl rfl ⟨rfl, hd_X0_widthsOf⟩ ⟨Nat.le_of_ble_eq_true rfl, Nat.le_of_ble_eq_true rfl⟩) (preVR hC hP 0 0 rfl rfl) rfl rfl hl.1 rfl (lv_room (Nat.le_of_ble_eq_true rfl)) dX0_now_49 ⟨Nat.le_of_ble_eq_true rfl, Nat.le_of_ble_eq_true rfl⟩) ?_
    exact n_iret (Qc := fun _ _ _ _ => True) hx hb hr hlocks (by rfl) dX0_now_52
  by_cases w2 : w = nI 2
  · subst w2
    refine lv_tableIn (off := 52) (tgt := 53) hx hb dX0_now_1 (by decide) (by decide) rfl (by decide) ?_
    refine lv_aload_n hx hb dX0_now_53 rfl (lv_at hl 0 rfl) ?_
    refine va_callR (va_runV (As := []) (rest := []) ⟨hx, hb, hml, hown, hts⟩ (m_X0_hiding l D y c J S hI hO) (cwV 0 hts (lw_V q645 q647 qs15 q54 q648) rfl rfl rfl ⟨rfl, hd_X0_hiding⟩ ⟨Nat.le_of_ble_eq_true rfl, Nat.le_of_ble_eq_true rfl⟩) (preVR hC hP 0 0 rfl rfl) rfl rfl hl.1 rfl (lv_room (Nat.le_of_ble_eq_true rfl)) dX0_now_54 ⟨Nat.le_of_ble_eq_true rfl, Nat.le_of_ble_eq_true rfl⟩) ?_
    exact n_iret (Qc := fun _ _ _ _ => True) hx hb hr hlocks (by rfl) dX0_now_57
  refine lv_tableOut (tgt := 58) hx hb dX0_now_1 (by have q0 := lv_neT w0 (show (nI 0).toInt = 0 from rfl); have q1 := lv_neT w1 (show (nI 1).toInt = 1 from rfl); have q2 := lv_neT w2 (show (nI 2).toInt = 2 from rfl); omega) (by decide) ?_
  refine lv_iconst (v := (-1)) hx hb dX0_now_58 (by decide) ?_
  exact n_iret (Qc := fun _ _ _ _ => True) hx hb hr hlocks (by rw [ansNow, if_neg w0, if_neg w1, if_neg w2]) dX0_now_59
theorem hd_X0_wide : yX0_wide.cls ≠ "java/lang/invoke/MethodHandle" ∧ yX0_wide.cls ≠ "java/lang/invoke/VarHandle" ∧ (parseMethodDescriptor yX0_wide.desc).map (fun d => d.parameters.length) = some 1 := by decide +kernel
/-- X0_wide -/
theorem m_X0_wide (l : Launch) (D : va_G) (y : Nat → ClassId) (c : Nat → Nat) (J : XJ) (S : St) (hI : StOk S) (hO : XOk S J) (k : Nat) (hk : k < 2147483648) : Met l yX0_wide (ws_ yX0_wide cX0_wide 4 (some .int)) ({ frames := 2, cells := 0, slots := 0, locals := 42 }) (va_Pc [.ref (c 0), .int (nI k)] (WR D y (cellsX y c J))) (QcRead (nI (wideF S k S.str))) 0 0 (fun _ => False) := by
  refine x_start (by decide) (Nat.le_of_ble_eq_true rfl) ?_
  intro p e s m below meth cd ls hx hb hr hts hml hown hlocks hnm hB hl
  have hC := hB.1
  obtain ⟨⟨hK, hN⟩, hP⟩ := hB
  have hown : s.vm.findClass RX0 = some m.cls := hown
  have hl : lv_has ls 4 [(0, .ref (c 0)), (1, .int (nI k))] := hl
  have i1 := hI.str
  refine lv_iconst (v := nI 0) hx hb dX0_wide_0 (by decide) ?_
  refine lv_istore_n (lv' := [(2, .int (nI 0)), (0, .ref (c 0)), (1, .int (nI k))]) hx hb dX0_wide_1 rfl hl (by decide) rfl (fun ls hl => ?_)
  refine lv_iconst (v := nI 0) hx hb dX0_wide_2 (by decide) ?_
  refine lv_istore_n (lv' := [(3, .int (nI 0)), (2, .int (nI 0)), (0, .ref (c 0)), (1, .int (nI k))]) hx hb dX0_wide_3 rfl hl (by decide) rfl (fun ls hl => ?_)
  refine w_loop (nL := 4) 4 (fun i => [(0, .ref (c 0)), (1, .int (nI k)), (2, .int (nI (wideF S k i))), (3, .int (nI i))]) (fun i => i ≤ S.str) (fun i => S.str - i) ?_ 0 (Nat.zero_le _) ls (lv_sub hl [2, 3, 1, 0] rfl)
  rintro i hi ih ls hl
  have hl : lv_has ls 4 [(0, .ref (c 0)), (1, .int (nI k)), (2, .int (nI (wideF S k i))), (3, .int (nI i))] := hl
  refine lv_iload_n hx hb dX0_wide_4 rfl (lv_at hl 3 rfl) ?_
  refine lv_aload_n hx hb dX0_wide_5 rfl (lv_at hl 0 rfl) ?_
  refine va_get (D := D) (ci := 0) (v := .ref (c 1)) (C := RX0) (T := TX0) (N := 19) hx hb hts in_X0 hown hK hP 0 rfl rfl 0 (by decide) (hts _ q485) (fun _ h9 => h9) rfl dX0_wide_6 ?_
  refine va_getN (D := D) (ci := 1) (v := .int (nI S.str)) (C := RX1) (T := TX1) (N := 8) hx hb hts in_X1 hown hK hP 1 rfl rfl 1 (by decide) (va_Nw.use rfl (hN _ q322 rfl)) (fun _ h9 => h9) (sv hO.str) dX0_wide_9 ?_
  refine n_icmp_ge (tgt := 43) hx hb dX0_wide_12 (by decide) (by omega) (by omega) (fun h1 => ?_) (fun h1 => ?_)
  · refine lv_iload_n hx hb dX0_wide_43 rfl (lv_at hl 2 rfl) ?_
    exact n_iret (Qc := fun _ _ _ _ => True) hx hb hr hlocks (by rw [show i = S.str by omega]) dX0_wide_44
  have h2 := wid_le hI.now (show i < S.str by omega)
  refine n_cut 35 [.int (nI (if k ≤ wid S.now i then 2 ^ i else 0)), .int (nI (wideF S k i))] (fun K => ?_) ?_
  · refine lv_iload_n hx hb dX0_wide_15 rfl (lv_at hl 2 rfl) ?_
    refine lv_aload_n hx hb dX0_wide_16 rfl (lv_at hl 0 rfl) ?_
    refine va_get (D := D) (ci := 0) (v := .ref (c 7)) (C := RX0) (T := TX0) (N := 19) hx hb hts in_X0 hown hK hP 0 rfl rfl 5 (by decide) (hts _ q496) (fun _ h9 => h9) rfl dX0_wide_17 ?_
    refine lv_iload_n hx hb dX0_wide_20 rfl (lv_at hl 3 rfl) ?_
    refine va_callR (va_runV (As := [.int (nI i)]) (rest := [.int (nI (wideF S k i))]) ⟨hx, hb, hml, hown, hts⟩ (m_X3_width l D y c J S hI hO i (by omega)) (cwV 1 hts (lw_V q563 q564 q565 q57 q566) rfl rfl rfl ⟨rfl, hd_X3_width⟩ ⟨Nat.le_of_ble_eq_true rfl, Nat.le_of_ble_eq_true rfl⟩) (preVR hC hP 3 7 rfl rfl) rfl rfl hl.1 rfl (lv_room (Nat.le_of_ble_eq_true rfl)) dX0_wide_21 ⟨Nat.le_of_ble_eq_true rfl, Nat.le_of_ble_eq_true rfl⟩) ?_
    refine lv_iload_n hx hb dX0_wide_24 rfl (lv_at hl 1 rfl) ?_
    refine n_icmp_lt (tgt := 34) hx hb dX0_wide_25 (by decide) (by omega) (by omega) (fun h3 => ?_) (fun h3 => ?_)
    · refine lv_iconst (v := nI 0) hx hb dX0_wide_34 (by decide) ?_
      exact n_top (by rw [if_neg (by omega)]) K
    refine lv_iconst (v := nI 1) hx hb dX0_wide_28 (by decide) ?_
    refine lv_iload_n hx hb dX0_wide_29 rfl (lv_at hl 3 rfl) ?_
    refine n_shl1 hx hb dX0_wide_30 (by omega) ?_
    refine lv_goto (tgt := 35) hx hb dX0_wide_31 (by decide) ?_
    exact n_top (by rw [if_pos h3]) K
  refine n_or hx hb dX0_wide_35 ?_
  refine lv_istore_n (lv' := [(2, .int (nI ((wideF S k i) ||| (if k ≤ wid S.now i then 2 ^ i else 0)))), (0, .ref (c 0)), (1, .int (nI k)), (3, .int (nI i))]) hx hb dX0_wide_36 rfl hl (by decide) rfl (fun ls hl => ?_)
  refine lv_iinc (v := nI (i + 1)) (lv' := [(3, .int (nI (i + 1))), (2, .int (nI ((wideF S k i) ||| (if k ≤ wid S.now i then 2 ^ i else 0)))), (0, .ref (c 0)), (1, .int (nI k))]) hx hb dX0_wide_37 hl (k := 3) rfl (nI_inc _) (by decide) rfl (fun ls hl => ?_)
  refine lv_goto (tgt := 4) hx hb dX0_wide_40 (by decide) ?_
  exact ih (i + 1) (by omega) (by omega) ls (lv_sub hl [2, 3, 1, 0] rfl)
theorem hd_X0_comes : yX0_comes.cls ≠ "java/lang/invoke/MethodHandle" ∧ yX0_comes.cls ≠ "java/lang/invoke/VarHandle" ∧ (parseMethodDescriptor yX0_comes.desc).map (fun d => d.parameters.length) = some 3 := by decide +kernel
/-- X0_comes -/
theorem m_X0_comes (l : Launch) (D : va_G) (y : Nat → ClassId) (c : Nat → Nat) (J : XJ) (S : St) (hI : StOk S) (hO : XOk S J) (a b sm : Nat) (ha : a < 8) (hb : b < 8) (hs : sm < 512) : Met l yX0_comes (ws_ yX0_comes cX0_comes 4 (some .boolean)) ({ frames := 3, cells := 0, slots := 0, locals := 70 }) (va_Pc [.ref (c 0), .int (nI a), .int (nI b), .int (nI sm)] (WR D y (cellsX y c J))) (QcRead (zb (comF S a b sm))) 0 0 (fun _ => False) := by
  refine x_start (by decide) (Nat.le_of_ble_eq_true rfl) ?_
  intro p e s m below meth cd ls hx hb hr hts hml hown hlocks hnm hB hl
  have hC := hB.1
  obtain ⟨⟨hK, hN⟩, hP⟩ := hB
  have hown : s.vm.findClass RX0 = some m.cls := hown
  have hl : lv_has ls 4 [(0, .ref (c 0)), (1, .int (nI a)), (2, .int (nI b)), (3, .int (nI sm))] := hl
  refine n_cut 20 [.int (zb (comF S a b sm))] (fun K => ?_) ?_
  · refine lv_aload_n hx hb dX0_comes_0 rfl (lv_at hl 0 rfl) ?_
    refine va_get (D := D) (ci := 0) (v := .ref (c 1)) (C := RX0) (T := TX0) (N := 19) hx hb hts in_X0 hown hK hP 0 rfl rfl 0 (by decide) (hts _ q485) (fun _ h9 => h9) rfl dX0_comes_1 ?_
    refine lv_iload_n hx hb dX0_comes_4 rfl (lv_at hl 1 rfl) ?_
    refine lv_iload_n hx hb dX0_comes_5 rfl (lv_at hl 2 rfl) ?_
    refine lv_iload_n hx hb dX0_comes_6 rfl (lv_at hl 3 rfl) ?_
    refine va_callR (va_runV (As := [.int (nI a), .int (nI b), .int (nI sm)]) (rest := []) ⟨hx, hb, hml, hown, hts⟩ (m_X1_far l D y c J S hI hO a b sm (by omega) (by omega) (by omega)) (cwV 3 hts (lw_V q665 q666 q667 q55 q668) rfl rfl rfl ⟨rfl, hd_X1_far⟩ ⟨Nat.le_of_ble_eq_true rfl, Nat.le_of_ble_eq_true rfl⟩) (preVR hC hP 1 1 rfl rfl) rfl rfl hl.1 rfl (lv_room (Nat.le_of_ble_eq_true rfl)) dX0_comes_7 ⟨Nat.le_of_ble_eq_true rfl, Nat.le_of_ble_eq_true rfl⟩) ?_
    refine lv_bipush (v := (-9)) hx hb dX0_comes_10 (by decide) ?_
    refine lv_icmp_eq (tgt := 19) hx hb dX0_comes_12 (by decide) (fun h1 => ?_) (fun h1 => ?_)
    · refine lv_iconst (v := nI 0) hx hb dX0_comes_19 (by decide) ?_
      exact n_top (by rw [show comF S a b sm = false by simp [comF, h1]]; decide) K
    refine lv_iconst (v := nI 1) hx hb dX0_comes_15 (by decide) ?_
    refine lv_goto (tgt := 20) hx hb dX0_comes_16 (by decide) ?_
    exact n_top (by rw [show comF S a b sm = true by simp [comF, h1]]; decide) K
  exact n_zret (Qc := fun _ _ _ _ => True) hx hb hr hlocks (rfl) dX0_comes_20
theorem hd_X0_widest : yX0_widest.cls ≠ "java/lang/invoke/MethodHandle" ∧ yX0_widest.cls ≠ "java/lang/invoke/VarHandle" ∧ (parseMethodDescriptor yX0_widest.desc).map (fun d => d.parameters.length) = some 2 := by decide +kernel
/-- X0_widest -/
theorem m_X0_widest (l : Launch) (D : va_G) (y : Nat → ClassId) (c : Nat → Nat) (J : XJ) (S : St) (hI : StOk S) (hO : XOk S J) (a b : Int32) : Met l yX0_widest (ws_ yX0_widest cX0_widest 4 (some .int)) ({ frames := 4, cells := 0, slots := 0, locals := 93 }) (va_Pc [.ref (c 0), .int a, .int b] (WR D y (cellsX y c J))) (QcRead (ansWidest S a b)) 0 0 (fun _ => False) := by
  refine x_start (by decide) (Nat.le_of_ble_eq_true rfl) ?_
  intro p e s m below meth cd ls hx hb hr hts hml hown hlocks hnm hB hl
  have hC := hB.1
  obtain ⟨⟨hK, hN⟩, hP⟩ := hB
  have hown : s.vm.findClass RX0 = some m.cls := hown
  have hl : lv_has ls 4 [(0, .ref (c 0)), (1, .int a), (2, .int b)] := hl
  have i1 := hI.str
  have i0 := hI.yds
  refine lv_aload_n hx hb dX0_widest_0 rfl (lv_at hl 0 rfl) ?_
  refine lv_iload_n hx hb dX0_widest_1 rfl (lv_at hl 1 rfl) ?_
  refine lv_iload_n hx hb dX0_widest_2 rfl (lv_at hl 2 rfl) ?_
  refine va_callR (va_runV (As := [.int a, .int b]) (rest := []) ⟨hx, hb, hml, hown, hts⟩ (m_X0_areYards l D y c J S hI hO a b) (cwV 2 hts (lw_V q653 q655 qs16 q54 q656) rfl rfl rfl ⟨rfl, hd_X0_areYards⟩ ⟨Nat.le_of_ble_eq_true rfl, Nat.le_of_ble_eq_true rfl⟩) (preVR hC hP 0 0 rfl rfl) rfl rfl hl.1 rfl (lv_room (Nat.le_of_ble_eq_true rfl)) dX0_widest_3 ⟨Nat.le_of_ble_eq_true rfl, Nat.le_of_ble_eq_true rfl⟩) ?_
  refine z_if_ne (tgt := 11) hx hb dX0_widest_6 (by decide) (fun h1 => ?_) (fun h1 => ?_)
  rotate_left
  · refine lv_iconst (v := (-1)) hx hb dX0_widest_9 (by decide) ?_
    exact n_iret (Qc := fun _ _ _ _ => True) hx hb hr hlocks (by rw [ansWidest, if_neg (bnf h1)]) dX0_widest_10
  have h0 := h1
  obtain ⟨i, j, hi, hj, hij, rfl, rfl⟩ := arY_of hI h1
  refine lv_bipush (v := nI 10) hx hb dX0_widest_11 (by decide) ?_
  refine lv_istore_n (lv' := [(3, .int (nI 10)), (0, .ref (c 0)), (1, .int (nI i)), (2, .int (nI j))]) hx hb dX0_widest_13 rfl hl (by decide) rfl (fun ls hl => ?_)
  refine w_loop (nL := 4) 14 (fun k => [(0, .ref (c 0)), (1, .int (nI i)), (2, .int (nI j)), (3, .int (nI k))]) (fun k => k ≤ 10 ∧ wdst S i j 10 = wdst S i j k) (fun k => k) ?_ 10 (⟨by omega, rfl⟩) ls (lv_sub hl [1, 2, 3, 0] rfl)
  rintro k hi ih ls hl
  have hl : lv_has ls 4 [(0, .ref (c 0)), (1, .int (nI i)), (2, .int (nI j)), (3, .int (nI k))] := hl
  obtain ⟨hk, he⟩ := hi
  have hw := Nat.lt_of_lt_of_le (wideF_lt (S := S) (w := k) S.str) (p512 i1)
  refine lv_iload_n hx hb dX0_widest_14 rfl (lv_at hl 3 rfl) ?_
  refine n_if_le (tgt := 38) hx hb dX0_widest_15 (by decide) (by omega) (fun h3 => ?_) (fun h3 => ?_)
  · refine lv_iload_n hx hb dX0_widest_38 rfl (lv_at hl 3 rfl) ?_
    refine n_if_ne (tgt := 47) hx hb dX0_widest_39 (by decide) (by omega) (fun h5 => ?_) (fun h5 => ?_)
    rotate_left
    · refine lv_bipush (v := (-9)) hx hb dX0_widest_42 (by decide) ?_
      refine lv_goto (tgt := 48) hx hb dX0_widest_44 (by decide) ?_
      exact n_iret (Qc := fun _ _ _ _ => True) hx hb hr hlocks (by rw [ansWidest, if_pos h0, idx_nI (by omega), idx_nI (by omega), he, h5]; rfl) dX0_widest_48
    exfalso; omega
  refine lv_aload_n hx hb dX0_widest_18 rfl (lv_at hl 0 rfl) ?_
  refine lv_iload_n hx hb dX0_widest_19 rfl (lv_at hl 1 rfl) ?_
  refine lv_iload_n hx hb dX0_widest_20 rfl (lv_at hl 2 rfl) ?_
  refine lv_aload_n hx hb dX0_widest_21 rfl (lv_at hl 0 rfl) ?_
  refine lv_iload_n hx hb dX0_widest_22 rfl (lv_at hl 3 rfl) ?_
  refine va_callR (va_runV (As := [.int (nI k)]) (rest := [.int (nI j), .int (nI i), .ref (c 0)]) ⟨hx, hb, hml, hown, hts⟩ (m_X0_wide l D y c J S hI hO k (by omega)) (cwV 1 hts (lw_V q657 q659 qs17 q54 q660) rfl rfl rfl ⟨rfl, hd_X0_wide⟩ ⟨Nat.le_of_ble_eq_true rfl, Nat.le_of_ble_eq_true rfl⟩) (preVR hC hP 0 0 rfl rfl) rfl rfl hl.1 rfl (lv_room (Nat.le_of_ble_eq_true rfl)) dX0_widest_23 ⟨Nat.le_of_ble_eq_true rfl, Nat.le_of_ble_eq_true rfl⟩) ?_
  refine va_callR (va_runV (As := [.int (nI i), .int (nI j), .int (nI (wideF S k S.str))]) (rest := []) ⟨hx, hb, hml, hown, hts⟩ (m_X0_comes l D y c J S hI hO i j (wideF S k S.str) (by omega) (by omega) (by omega)) (cwV 3 hts (lw_V q661 q663 qs18 q54 q664) rfl rfl rfl ⟨rfl, hd_X0_comes⟩ ⟨Nat.le_of_ble_eq_true rfl, Nat.le_of_ble_eq_true rfl⟩) (preVR hC hP 0 0 rfl rfl) rfl rfl hl.1 rfl (lv_room (Nat.le_of_ble_eq_true rfl)) dX0_widest_26 ⟨Nat.le_of_ble_eq_true rfl, Nat.le_of_ble_eq_true rfl⟩) ?_
  refine z_if_ne (tgt := 38) hx hb dX0_widest_29 (by decide) (fun h4 => ?_) (fun h4 => ?_)
  · refine lv_iload_n hx hb dX0_widest_38 rfl (lv_at hl 3 rfl) ?_
    refine n_if_ne (tgt := 47) hx hb dX0_widest_39 (by decide) (by omega) (fun h5 => ?_) (fun h5 => ?_)
    rotate_left
    · exfalso; omega
    refine lv_iload_n hx hb dX0_widest_47 rfl (lv_at hl 3 rfl) ?_
    exact n_iret (Qc := fun _ _ _ _ => True) hx hb hr hlocks (by obtain ⟨k, rfl⟩ : ∃ q, k = q + 1 := ⟨k - 1, by omega⟩; rw [ansWidest, if_pos h0, idx_nI (by omega), idx_nI (by omega), he]; show _ = (if _ then _ else _); rw [if_pos h4]) dX0_widest_48
  refine lv_iinc (v := nI (k - 1)) (lv' := [(3, .int (nI (k - 1))), (0, .ref (c 0)), (1, .int (nI i)), (2, .int (nI j))]) hx hb dX0_widest_32 hl (k := 3) rfl (nI_dec' (by omega)) (by decide) rfl (fun ls hl => ?_)
  refine lv_goto (tgt := 14) hx hb dX0_widest_35 (by decide) ?_
  exact ih (k - 1) (⟨by omega, by obtain ⟨k, rfl⟩ : ∃ q, k = q + 1 := ⟨k - 1, by omega⟩; rw [he]; show (if _ then _ else _) = _; rw [if_neg (bnf h4)]; rfl⟩) (by omega) ls (lv_sub hl [1, 2, 3, 0] rfl)
theorem hd_X0_way : yX0_way.cls ≠ "java/lang/invoke/MethodHandle" ∧ yX0_way.cls ≠ "java/lang/invoke/VarHandle" ∧ (parseMethodDescriptor yX0_way.desc).map (fun d => d.parameters.length) = some 3 := by decide +kernel
/-- X0_way -/
theorem m_X0_way (l : Launch) (D : va_G) (y : Nat → ClassId) (c : Nat → Nat) (J : XJ) (S : St) (hI : StOk S) (hO : XOk S J) (a b w : Int32) : Met l yX0_way (ws_ yX0_way cX0_way 4 (some .int)) ({ frames := 3, cells := 0, slots := 0, locals := 70 }) (va_Pc [.ref (c 0), .int a, .int b, .int w] (WR D y (cellsX y c J))) (QcRead (ansWay S a b w)) 0 0 (fun _ => False) := by
  refine x_start (by decide) (Nat.le_of_ble_eq_true rfl) ?_
  intro p e s m below meth cd ls hx hb hr hts hml hown hlocks hnm hB hl
  have hC := hB.1
  obtain ⟨⟨hK, hN⟩, hP⟩ := hB
  have hown : s.vm.findClass RX0 = some m.cls := hown
  have hl : lv_has ls 4 [(0, .ref (c 0)), (1, .int a), (2, .int b), (3, .int w)] := hl
  have i1 := hI.str
  have i0 := hI.yds
  refine lv_aload_n hx hb dX0_way_0 rfl (lv_at hl 0 rfl) ?_
  refine lv_iload_n hx hb dX0_way_1 rfl (lv_at hl 1 rfl) ?_
  refine lv_iload_n hx hb dX0_way_2 rfl (lv_at hl 2 rfl) ?_
  refine va_callR (va_runV (As := [.int a, .int b]) (rest := []) ⟨hx, hb, hml, hown, hts⟩ (m_X0_areYards l D y c J S hI hO a b) (cwV 2 hts (lw_V q653 q655 qs16 q54 q656) rfl rfl rfl ⟨rfl, hd_X0_areYards⟩ ⟨Nat.le_of_ble_eq_true rfl, Nat.le_of_ble_eq_true rfl⟩) (preVR hC hP 0 0 rfl rfl) rfl rfl hl.1 rfl (lv_room (Nat.le_of_ble_eq_true rfl)) dX0_way_3 ⟨Nat.le_of_ble_eq_true rfl, Nat.le_of_ble_eq_true rfl⟩) ?_
  refine z_if_eq (tgt := 33) hx hb dX0_way_6 (by decide) (fun h1 => ?_) (fun h1 => ?_)
  · refine lv_iconst (v := (-1)) hx hb dX0_way_33 (by decide) ?_
    exact n_iret (Qc := fun _ _ _ _ => True) hx hb hr hlocks (by rw [ansWay, if_neg (bnf h1)]) dX0_way_34
  have h0 := h1
  obtain ⟨i, j, hi, hj, hij, rfl, rfl⟩ := arY_of hI h1
  refine lv_iload_n hx hb dX0_way_9 rfl (lv_at hl 3 rfl) ?_
  refine va_callR (va_runS (As := [.int w]) (rest := []) ⟨hx, hb, hml, hown, hts⟩ (m_X0_isWidth l w) (va_cwS 1 hts (lw_S q678 q679 q54 q680) rfl rfl rfl hd_X0_isWidth ⟨Nat.le_of_ble_eq_true rfl, Nat.le_of_ble_eq_true rfl⟩) pre0 rfl rfl hl.1 rfl (lv_room (Nat.le_of_ble_eq_true rfl)) dX0_way_10 ⟨Nat.le_of_ble_eq_true rfl, Nat.le_of_ble_eq_true rfl⟩) ?_
  refine z_if_eq (tgt := 33) hx hb dX0_way_13 (by decide) (fun h2 => ?_) (fun h2 => ?_)
  · refine lv_iconst (v := (-1)) hx hb dX0_way_33 (by decide) ?_
    exact n_iret (Qc := fun _ _ _ _ => True) hx hb hr hlocks (by rw [ansWay, if_pos h0, if_neg (bnf h2)]) dX0_way_34
  have h3 := h2
  obtain ⟨k, hk1, hk2, rfl⟩ := inI_of (by omega) (by omega) h2
  have hw := Nat.lt_of_lt_of_le (wideF_lt (S := S) (w := k) S.str) (p512 i1)
  refine lv_aload_n hx hb dX0_way_16 rfl (lv_at hl 0 rfl) ?_
  refine va_get (D := D) (ci := 0) (v := .ref (c 1)) (C := RX0) (T := TX0) (N := 19) hx hb hts in_X0 hown hK hP 0 rfl rfl 0 (by decide) (hts _ q485) (fun _ h9 => h9) rfl dX0_way_17 ?_
  refine lv_iload_n hx hb dX0_way_20 rfl (lv_at hl 1 rfl) ?_
  refine lv_iload_n hx hb dX0_way_21 rfl (lv_at hl 2 rfl) ?_
  refine lv_aload_n hx hb dX0_way_22 rfl (lv_at hl 0 rfl) ?_
  refine lv_iload_n hx hb dX0_way_23 rfl (lv_at hl 3 rfl) ?_
  refine va_callR (va_runV (As := [.int (nI k)]) (rest := [.int (nI j), .int (nI i), .ref (c 1)]) ⟨hx, hb, hml, hown, hts⟩ (m_X0_wide l D y c J S hI hO k (by omega)) (cwV 1 hts (lw_V q657 q659 qs17 q54 q660) rfl rfl rfl ⟨rfl, hd_X0_wide⟩ ⟨Nat.le_of_ble_eq_true rfl, Nat.le_of_ble_eq_true rfl⟩) (preVR hC hP 0 0 rfl rfl) rfl rfl hl.1 rfl (lv_room (Nat.le_of_ble_eq_true rfl)) dX0_way_24 ⟨Nat.le_of_ble_eq_true rfl, Nat.le_of_ble_eq_true rfl⟩) ?_
  refine va_callR (va_runV (As := [.int (nI i), .int (nI j), .int (nI (wideF S k S.str))]) (rest := []) ⟨hx, hb, hml, hown, hts⟩ (m_X1_far l D y c J S hI hO i j (wideF S k S.str) (by omega) (by omega) (by omega)) (cwV 3 hts (lw_V q665 q666 q667 q55 q668) rfl rfl rfl ⟨rfl, hd_X1_far⟩ ⟨Nat.le_of_ble_eq_true rfl, Nat.le_of_ble_eq_true rfl⟩) (preVR hC hP 1 1 rfl rfl) rfl rfl hl.1 rfl (lv_room (Nat.le_of_ble_eq_true rfl)) dX0_way_27 ⟨Nat.le_of_ble_eq_true rfl, Nat.le_of_ble_eq_true rfl⟩) ?_
  refine lv_goto (tgt := 34) hx hb dX0_way_30 (by decide) ?_
  exact n_iret (Qc := fun _ _ _ _ => True) hx hb hr hlocks (by rw [ansWay, if_pos h0, if_pos h3, idx_nI (by omega), idx_nI (by omega), idx_nI (by omega)]) dX0_way_34
