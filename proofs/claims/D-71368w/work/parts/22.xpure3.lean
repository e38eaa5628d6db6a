/-! component: methods that only read, 3 -/
set_option maxRecDepth 100000
theorem hd_J8_bitCount : yJ8_bitCount.cls ≠ "java/lang/invoke/MethodHandle" ∧ yJ8_bitCount.cls ≠ "java/lang/invoke/VarHandle" ∧ (parseMethodDescriptor yJ8_bitCount.desc).map (fun d => d.parameters.length) = some 1 := by decide +kernel
/-- J8_bitCount -/
theorem m_J8_bitCount (l : Launch) (n : Nat) (hn : n < 1024) : Met l yJ8_bitCount (ws_ yJ8_bitCount cJ8_bitCount 1 (some .int)) ({ frames := 0, cells := 0, slots := 0, locals := 0 }) (va_Pc [.int (nI n)] (fun _ => True)) (QcRead (nI (bits n))) 0 0 (fun _ => False) := by
  refine x_start (by decide) (Nat.le_of_ble_eq_true rfl) ?_
  intro p e s m below meth cd ls hx hb hr hts hml hown hlocks hnm hB hl
  have hown : s.vm.findClass RJ8 = some m.cls := hown
  have hl : lv_has ls 1 [(0, .int (nI n))] := hl
  refine lv_iload_n hx hb dJ8_bitCount_0 rfl (lv_at hl 0 rfl) ?_
  refine lv_iload_n hx hb dJ8_bitCount_1 rfl (lv_at hl 0 rfl) ?_
  refine lv_iconst (v := nI 1) hx hb dJ8_bitCount_2 (by decide) ?_
  refine lv_iushr hx hb dJ8_bitCount_3 rfl ?_
  refine lv_ldcw (v := 1431655765) hx hb hown (hts _ q607) dJ8_bitCount_4 ?_
  refine n_top (y := nI 1431655765) (by decide) ?_
  refine lv_iand hx hb dJ8_bitCount_7 ?_
  refine lv_isub hx hb dJ8_bitCount_8 ?_
  refine n_top (y := bc1 (nI n)) (rfl) ?_
  refine lv_istore_n (lv' := [(0, .int (bc1 (nI n)))]) hx hb dJ8_bitCount_9 rfl hl (by decide) rfl (fun ls hl => ?_)
  refine lv_iload_n hx hb dJ8_bitCount_10 rfl (lv_at hl 0 rfl) ?_
  refine lv_ldcw (v := 858993459) hx hb hown (hts _ q608) dJ8_bitCount_11 ?_
  refine n_top (y := nI 858993459) (by decide) ?_
  refine lv_iand hx hb dJ8_bitCount_14 ?_
  refine lv_iload_n hx hb dJ8_bitCount_15 rfl (lv_at hl 0 rfl) ?_
  refine lv_iconst (v := nI 2) hx hb dJ8_bitCount_16 (by decide) ?_
  refine lv_iushr hx hb dJ8_bitCount_17 rfl ?_
  refine lv_ldcw (v := 858993459) hx hb hown (hts _ q608) dJ8_bitCount_18 ?_
  refine n_top (y := nI 858993459) (by decide) ?_
  refine lv_iand hx hb dJ8_bitCount_21 ?_
  refine lv_iadd hx hb dJ8_bitCount_22 ?_
  refine n_top (y := bc2 (bc1 (nI n))) (rfl) ?_
  refine lv_istore_n (lv' := [(0, .int (bc2 (bc1 (nI n))))]) hx hb dJ8_bitCount_23 rfl hl (by decide) rfl (fun ls hl => ?_)
  refine lv_iload_n hx hb dJ8_bitCount_24 rfl (lv_at hl 0 rfl) ?_
  refine lv_iload_n hx hb dJ8_bitCount_25 rfl (lv_at hl 0 rfl) ?_
  refine lv_iconst (v := nI 4) hx hb dJ8_bitCount_26 (by decide) ?_
  refine lv_iushr hx hb dJ8_bitCount_27 rfl ?_
  refine lv_iadd hx hb dJ8_bitCount_28 ?_
  refine lv_ldcw (v := 252645135) hx hb hown (hts _ q609) dJ8_bitCount_29 ?_
  refine n_top (y := nI 252645135) (by decide) ?_
  refine lv_iand hx hb dJ8_bitCount_32 ?_
  refine n_top (y := bc3 (bc2 (bc1 (nI n)))) (rfl) ?_
  refine lv_istore_n (lv' := [(0, .int (bc3 (bc2 (bc1 (nI n)))))]) hx hb dJ8_bitCount_33 rfl hl (by decide) rfl (fun ls hl => ?_)
  refine lv_iload_n hx hb dJ8_bitCount_34 rfl (lv_at hl 0 rfl) ?_
  refine lv_iload_n hx hb dJ8_bitCount_35 rfl (lv_at hl 0 rfl) ?_
  refine lv_bipush (v := nI 8) hx hb dJ8_bitCount_36 (by decide) ?_
  refine lv_iushr hx hb dJ8_bitCount_38 rfl ?_
  refine lv_iadd hx hb dJ8_bitCount_39 ?_
  refine n_top (y := bc4 (bc3 (bc2 (bc1 (nI n))))) (rfl) ?_
  refine lv_istore_n (lv' := [(0, .int (bc4 (bc3 (bc2 (bc1 (nI n))))))]) hx hb dJ8_bitCount_40 rfl hl (by decide) rfl (fun ls hl => ?_)
  refine lv_iload_n hx hb dJ8_bitCount_41 rfl (lv_at hl 0 rfl) ?_
  refine lv_iload_n hx hb dJ8_bitCount_42 rfl (lv_at hl 0 rfl) ?_
  refine lv_bipush (v := nI 16) hx hb dJ8_bitCount_43 (by decide) ?_
  refine lv_iushr hx hb dJ8_bitCount_45 rfl ?_
  refine lv_iadd hx hb dJ8_bitCount_46 ?_
  refine n_top (y := bc5 (bc4 (bc3 (bc2 (bc1 (nI n)))))) (rfl) ?_
  refine lv_istore_n (lv' := [(0, .int (bc5 (bc4 (bc3 (bc2 (bc1 (nI n)))))))]) hx hb dJ8_bitCount_47 rfl hl (by decide) rfl (fun ls hl => ?_)
  refine lv_iload_n hx hb dJ8_bitCount_48 rfl (lv_at hl 0 rfl) ?_
  refine lv_bipush (v := nI 63) hx hb dJ8_bitCount_49 (by decide) ?_
  refine lv_iand hx hb dJ8_bitCount_51 ?_
  exact n_iret (Qc := fun _ _ _ _ => True) hx hb hr hlocks (bc_all n hn) dJ8_bitCount_52
theorem hd_X0_gcd : yX0_gcd.cls ≠ "java/lang/invoke/MethodHandle" ∧ yX0_gcd.cls ≠ "java/lang/invoke/VarHandle" ∧ (parseMethodDescriptor yX0_gcd.desc).map (fun d => d.parameters.length) = some 2 := by decide +kernel
/-- X0_gcd -/
theorem m_X0_gcd (l : Launch) (a b : Nat) (ha : a < 2147483648) (hbb : b < 2147483648) : Met l yX0_gcd (ws_ yX0_gcd cX0_gcd 5 (some .int)) ({ frames := 0, cells := 0, slots := 0, locals := 0 }) (va_Pc [.int (nI a), .int (nI b)] (fun _ => True)) (QcRead (nI (Nat.gcd a b))) 0 0 (fun _ => False) := by
  refine x_start (by decide) (Nat.le_of_ble_eq_true rfl) ?_
  intro p e s m below meth cd ls hx hb hr hts hml hown hlocks hnm hB hl
  have hown : s.vm.findClass RX0 = some m.cls := hown
  have hl : lv_has ls 5 [(0, .int (nI a)), (1, .int (nI b))] := hl
  refine lv_iload_n hx hb dX0_gcd_0 rfl (lv_at hl 0 rfl) ?_
  refine lv_istore_n (lv' := [(2, .int (nI a)), (0, .int (nI a)), (1, .int (nI b))]) hx hb dX0_gcd_1 rfl hl (by decide) rfl (fun ls hl => ?_)
  refine lv_iload_n hx hb dX0_gcd_2 rfl (lv_at hl 2 rfl) ?_
  refine lv_istore_n (lv' := [(3, .int (nI b)), (2, .int (nI a)), (0, .int (nI a)), (1, .int (nI b))]) hx hb dX0_gcd_3 rfl hl (by decide) rfl (fun ls hl => ?_)
  refine w_loop (nL := 5) 4 (fun a_ => [(0, .int (nI a)), (1, .int (nI b)), (2, .int (nI a_.1)), (3, .int (nI a_.2))]) (fun a_ => Nat.gcd a_.1 a_.2 = Nat.gcd a b ∧ a_.1 < 2147483648 ∧ a_.2 < 2147483648) (fun a_ => a_.2) ?_ (a, b) (⟨rfl, ha, hbb⟩) ls (lv_sub hl [2, 3, 1, 0] rfl)
  rintro ⟨x, z⟩ hi ih ls hl
  have hi : Nat.gcd x z = Nat.gcd a b ∧ x < 2147483648 ∧ z < 2147483648 := hi
  have hl : lv_has ls 5 [(0, .int (nI a)), (1, .int (nI b)), (2, .int (nI x)), (3, .int (nI z))] := hl
  obtain ⟨hg, hx1, hz1⟩ := hi
  refine lv_iload_n hx hb dX0_gcd_4 rfl (lv_at hl 3 rfl) ?_
  refine n_if_eq (tgt := 21) hx hb dX0_gcd_5 (by decide) (by omega) (fun h1 => ?_) (fun h1 => ?_)
  · refine lv_iload_n hx hb dX0_gcd_21 rfl (lv_at hl 2 rfl) ?_
    exact n_iret (Qc := fun _ _ _ _ => True) hx hb hr hlocks (by rw [h1, Nat.gcd_zero_right] at hg; rw [hg]) dX0_gcd_22
  refine lv_iload_n hx hb dX0_gcd_8 rfl (lv_at hl 2 rfl) ?_
  refine lv_iload_n hx hb dX0_gcd_9 rfl (lv_at hl 3 rfl) ?_
  refine n_rem hx hb dX0_gcd_10 (by omega) (by omega) (by omega) ?_
  refine lv_istore (lv' := [(4, .int (nI (x % z))), (0, .int (nI a)), (1, .int (nI b)), (2, .int (nI x)), (3, .int (nI z))]) hx hb dX0_gcd_11 hl (by decide) rfl (fun ls hl => ?_)
  refine lv_iload_n hx hb dX0_gcd_13 rfl (lv_at hl 4 rfl) ?_
  refine lv_istore_n (lv' := [(2, .int (nI z)), (4, .int (nI (x % z))), (0, .int (nI a)), (1, .int (nI b)), (3, .int (nI z))]) hx hb dX0_gcd_14 rfl hl (by decide) rfl (fun ls hl => ?_)
  refine lv_iload hx hb dX0_gcd_15 (lv_at hl 1 rfl) ?_
  refine lv_istore_n (lv' := [(3, .int (nI (x % z))), (2, .int (nI z)), (4, .int (nI (x % z))), (0, .int (nI a)), (1, .int (nI b))]) hx hb dX0_gcd_17 rfl hl (by decide) rfl (fun ls hl => ?_)
  refine lv_goto (tgt := 4) hx hb dX0_gcd_18 (by decide) ?_
  have hlt := Nat.mod_lt x (show 0 < z by omega)
  exact ih (z, x % z) (⟨by rw [← hg, Nat.gcd_comm, ← Nat.gcd_rec, Nat.gcd_comm], hz1, by omega⟩) (hlt) ls (lv_sub hl [3, 4, 1, 0] rfl)
theorem hd_X0_power : yX0_power.cls ≠ "java/lang/invoke/MethodHandle" ∧ yX0_power.cls ≠ "java/lang/invoke/VarHandle" ∧ (parseMethodDescriptor yX0_power.desc).map (fun d => d.parameters.length) = some 2 := by decide +kernel
/-- X0_power -/
theorem m_X0_power (l : Launch) (a n : Nat) (hn : n < 2147483648) : Met l yX0_power (ws_ yX0_power cX0_power 4 (some .int)) ({ frames := 0, cells := 0, slots := 0, locals := 0 }) (va_Pc [.int (nI a), .int (nI n)] (fun _ => True)) (QcRead (nI (a ^ n))) 0 0 (fun _ => False) := by
  refine x_start (by decide) (Nat.le_of_ble_eq_true rfl) ?_
  intro p e s m below meth cd ls hx hb hr hts hml hown hlocks hnm hB hl
  have hown : s.vm.findClass RX0 = some m.cls := hown
  have hl : lv_has ls 4 [(0, .int (nI a)), (1, .int (nI n))] := hl
  refine lv_iconst (v := nI 1) hx hb dX0_power_0 (by decide) ?_
  refine lv_istore_n (lv' := [(2, .int (nI 1)), (0, .int (nI a)), (1, .int (nI n))]) hx hb dX0_power_1 rfl hl (by decide) rfl (fun ls hl => ?_)
  refine lv_iconst (v := nI 0) hx hb dX0_power_2 (by decide) ?_
  refine lv_istore_n (lv' := [(3, .int (nI 0)), (2, .int (nI 1)), (0, .int (nI a)), (1, .int (nI n))]) hx hb dX0_power_3 rfl hl (by decide) rfl (fun ls hl => ?_)
  refine w_loop (nL := 4) 4 (fun i => [(0, .int (nI a)), (1, .int (nI n)), (2, .int (nI (a ^ i))), (3, .int (nI i))]) (fun i => i ≤ n) (fun i => n - i) ?_ 0 (Nat.zero_le _) ls (lv_sub hl [2, 3, 1, 0] rfl)
  rintro i hi ih ls hl
  have hl : lv_has ls 4 [(0, .int (nI a)), (1, .int (nI n)), (2, .int (nI (a ^ i))), (3, .int (nI i))] := hl
  refine lv_iload_n hx hb dX0_power_4 rfl (lv_at hl 3 rfl) ?_
  refine lv_iload_n hx hb dX0_power_5 rfl (lv_at hl 1 rfl) ?_
  refine n_icmp_ge (tgt := 19) hx hb dX0_power_6 (by decide) (by omega) (by omega) (fun h1 => ?_) (fun h1 => ?_)
  · refine lv_iload_n hx hb dX0_power_19 rfl (lv_at hl 2 rfl) ?_
    exact n_iret (Qc := fun _ _ _ _ => True) hx hb hr hlocks (by rw [show i = n by omega]) dX0_power_20
  refine lv_iload_n hx hb dX0_power_9 rfl (lv_at hl 2 rfl) ?_
  refine lv_iload_n hx hb dX0_power_10 rfl (lv_at hl 0 rfl) ?_
  refine n_mul hx hb dX0_power_11 ?_
  refine lv_istore_n (lv' := [(2, .int (nI ((a ^ i) * a))), (0, .int (nI a)), (1, .int (nI n)), (3, .int (nI i))]) hx hb dX0_power_12 rfl hl (by decide) rfl (fun ls hl => ?_)
  refine lv_iinc (v := nI (i + 1)) (lv' := [(3, .int (nI (i + 1))), (2, .int (nI ((a ^ i) * a))), (0, .int (nI a)), (1, .int (nI n))]) hx hb dX0_power_13 hl (k := 3) rfl (nI_inc _) (by decide) rfl (fun ls hl => ?_)
  refine lv_goto (tgt := 4) hx hb dX0_power_16 (by decide) ?_
  exact ih (i + 1) (by omega) (by omega) ls (lv_sub hl [2, 3, 1, 0] rfl)
theorem hd_X0_narrows : yX0_narrows.cls ≠ "java/lang/invoke/MethodHandle" ∧ yX0_narrows.cls ≠ "java/lang/invoke/VarHandle" ∧ (parseMethodDescriptor yX0_narrows.desc).map (fun d => d.parameters.length) = some 3 := by decide +kernel
/-- X0_narrows -/
theorem m_X0_narrows (l : Launch) (D : va_G) (y : Nat → ClassId) (c : Nat → Nat) (J : XJ) (S : St) (hI : StOk S) (hO : XOk S J) (a b f : Nat) (ha : a < 8) (hb : b < 8) (hf : f < 2147483648) : Met l yX0_narrows (ws_ yX0_narrows cX0_narrows 8 (some .int)) ({ frames := 4, cells := 0, slots := 0, locals := 93 }) (va_Pc [.ref (c 0), .int (nI a), .int (nI b), .int (nI f)] (WR D y (cellsX y c J))) (QcRead (oI (minF (cutQ S a b f) (2 ^ S.str)))) 0 0 (fun _ => False) := by
  refine x_start (by decide) (Nat.le_of_ble_eq_true rfl) ?_
  intro p e s m below meth cd ls hx hb hr hts hml hown hlocks hnm hB hl
  have hC := hB.1
  obtain ⟨⟨hK, hN⟩, hP⟩ := hB
  have hown : s.vm.findClass RX0 = some m.cls := hown
  have hl : lv_has ls 8 [(0, .ref (c 0)), (1, .int (nI a)), (2, .int (nI b)), (3, .int (nI f))] := hl
  have i1 := hI.str
  have i0 := hI.yds
  have i2 := p512 i1
  have i3 := Nat.two_pow_pos S.str
  refine lv_aload_n hx hb dX0_narrows_0 rfl (lv_at hl 0 rfl) ?_
  refine va_callR (va_runV (As := []) (rest := []) ⟨hx, hb, hml, hown, hts⟩ (m_X0_allStreets l D y c J S hI hO) (cwV 0 hts (lw_V q626 q628 qs13 q54 q629) rfl rfl rfl ⟨rfl, hd_X0_allStreets⟩ ⟨Nat.le_of_ble_eq_true rfl, Nat.le_of_ble_eq_true rfl⟩) (preVR hC hP 0 0 rfl rfl) rfl rfl hl.1 rfl (lv_room (Nat.le_of_ble_eq_true rfl)) dX0_narrows_1 ⟨Nat.le_of_ble_eq_true rfl, Nat.le_of_ble_eq_true rfl⟩) ?_
  refine lv_istore (lv' := [(4, .int (nI (2 ^ S.str - 1))), (0, .ref (c 0)), (1, .int (nI a)), (2, .int (nI b)), (3, .int (nI f))]) hx hb dX0_narrows_4 hl (by decide) rfl (fun ls hl => ?_)
  refine lv_bipush (v := (-9)) hx hb dX0_narrows_6 (by decide) ?_
  refine lv_istore (lv' := [(5, .int (-9)), (4, .int (nI (2 ^ S.str - 1))), (0, .ref (c 0)), (1, .int (nI a)), (2, .int (nI b)), (3, .int (nI f))]) hx hb dX0_narrows_8 hl (by decide) rfl (fun ls hl => ?_)
  refine lv_iload hx hb dX0_narrows_10 (lv_at hl 1 rfl) ?_
  refine lv_istore (lv' := [(6, .int (nI (2 ^ S.str - 1))), (5, .int (-9)), (4, .int (nI (2 ^ S.str - 1))), (0, .ref (c 0)), (1, .int (nI a)), (2, .int (nI b)), (3, .int (nI f))]) hx hb dX0_narrows_12 hl (by decide) rfl (fun ls hl => ?_)
  have hl : lv_has ls 8 [(6, .int (dn (2 ^ S.str - 1 + 1))), (5, .int (oI none)), (4, .int (nI (2 ^ S.str - 1))), (0, .ref (c 0)), (1, .int (nI a)), (2, .int (nI b)), (3, .int (nI f))] := by rw [dn_s]; exact hl
  refine w_loop (nL := 8) 14 (fun a_ => [(0, .ref (c 0)), (1, .int (nI a)), (2, .int (nI b)), (3, .int (nI f)), (4, .int (nI (2 ^ S.str - 1))), (5, .int (oI a_.2)), (6, .int (dn a_.1))]) (fun a_ => a_.1 ≤ 2 ^ S.str ∧ IsMin (cutQ S a b f) a_.1 (2 ^ S.str) a_.2) (fun a_ => a_.1) ?_ (2 ^ S.str - 1 + 1, none) (⟨by omega, fun v h1 h2 => by omega⟩) ls (lv_sub hl [3, 4, 5, 6, 2, 1, 0] rfl)
  rintro ⟨q, r⟩ hi ih ls hl
  have hi : q ≤ 2 ^ S.str ∧ IsMin (cutQ S a b f) q (2 ^ S.str) r := hi
  have hl : lv_has ls 8 [(0, .ref (c 0)), (1, .int (nI a)), (2, .int (nI b)), (3, .int (nI f)), (4, .int (nI (2 ^ S.str - 1))), (5, .int (oI r)), (6, .int (dn q))] := hl
  obtain ⟨hq, hm⟩ := hi
  refine lv_iload hx hb dX0_narrows_14 (lv_at hl 6 rfl) ?_
  refine lv_if_lt (tgt := 92) hx hb dX0_narrows_16 (by decide) (fun h1 => ?_) (fun h1 => ?_)
  · have h2 := (dn_neg (by omega)).mp h1
    subst h2
    refine lv_iload hx hb dX0_narrows_92 (lv_at hl 5 rfl) ?_
    exact n_iret (Qc := fun _ _ _ _ => True) hx hb hr hlocks (by rw [hm.uniq (minF_is _ _)]) dX0_narrows_94
  obtain ⟨k, rfl⟩ : ∃ k, q = k + 1 := ⟨q - 1, by have h2 := mt (dn_neg (by omega)).mpr h1; omega⟩
  rw [dn_s] at hl
  have hl : lv_has ls 8 [(0, .ref (c 0)), (1, .int (nI a)), (2, .int (nI b)), (3, .int (nI f)), (4, .int (nI (2 ^ S.str - 1))), (5, .int (oI r)), (6, .int (nI k))] := hl
  refine n_cut 44 [.int (zb (fewD r k))] (fun K => ?_) ?_
  · rcases r with _ | u
    · have hl : lv_has ls 8 [(0, .ref (c 0)), (1, .int (nI a)), (2, .int (nI b)), (3, .int (nI f)), (4, .int (nI (2 ^ S.str - 1))), (5, .int (-9)), (6, .int (nI k))] := hl
      refine lv_iload hx hb dX0_narrows_19 (lv_at hl 5 rfl) ?_
      refine lv_bipush (v := (-9)) hx hb dX0_narrows_21 (by decide) ?_
      refine lv_icmp_eq (tgt := 39) hx hb dX0_narrows_23 (by decide) (fun h8 => ?_) (fun h8 => ?_)
      · refine lv_iconst (v := nI 1) hx hb dX0_narrows_39 (by decide) ?_
        refine lv_goto (tgt := 44) hx hb dX0_narrows_40 (by decide) ?_
        exact K
      exact absurd rfl h8
    have hl : lv_has ls 8 [(0, .ref (c 0)), (1, .int (nI a)), (2, .int (nI b)), (3, .int (nI f)), (4, .int (nI (2 ^ S.str - 1))), (5, .int (nI u)), (6, .int (nI k))] := hl
    have hu : u < 512 := by have := hm.lt rfl; omega
    refine lv_iload hx hb dX0_narrows_19 (lv_at hl 5 rfl) ?_
    refine lv_bipush (v := (-9)) hx hb dX0_narrows_21 (by decide) ?_
    refine lv_icmp_eq (tgt := 39) hx hb dX0_narrows_23 (by decide) (fun h8 => ?_) (fun h8 => ?_)
    · exact absurd h8 (nI_ne9 (by omega))
    have b1 := bits_10 k
    have b2 := bits_10 u
    refine lv_iload hx hb dX0_narrows_26 (lv_at hl 6 rfl) ?_
    refine va_callR (va_runS (As := [.int (nI k)]) (rest := []) ⟨hx, hb, hml, hown, hts⟩ (m_J8_bitCount l k (by omega)) (va_cwS 1 hts (lw_S q604 q605 q76 q606) rfl rfl rfl hd_J8_bitCount ⟨Nat.le_of_ble_eq_true rfl, Nat.le_of_ble_eq_true rfl⟩) pre0 rfl rfl hl.1 rfl (lv_room (Nat.le_of_ble_eq_true rfl)) dX0_narrows_28 ⟨Nat.le_of_ble_eq_true rfl, Nat.le_of_ble_eq_true rfl⟩) ?_
    refine lv_iload hx hb dX0_narrows_31 (lv_at hl 5 rfl) ?_
    refine va_callR (va_runS (As := [.int (nI u)]) (rest := [.int (nI (bits k))]) ⟨hx, hb, hml, hown, hts⟩ (m_J8_bitCount l u (by omega)) (va_cwS 1 hts (lw_S q604 q605 q76 q606) rfl rfl rfl hd_J8_bitCount ⟨Nat.le_of_ble_eq_true rfl, Nat.le_of_ble_eq_true rfl⟩) pre0 rfl rfl hl.1 rfl (lv_room (Nat.le_of_ble_eq_true rfl)) dX0_narrows_33 ⟨Nat.le_of_ble_eq_true rfl, Nat.le_of_ble_eq_true rfl⟩) ?_
    refine n_icmp_gt (tgt := 43) hx hb dX0_narrows_36 (by decide) (by omega) (by omega) (fun h9 => ?_) (fun h9 => ?_)
    · refine lv_iconst (v := nI 0) hx hb dX0_narrows_43 (by decide) ?_
      exact n_top (by rw [show fewD (some u) k = false by simp [fewD]; omega]; decide) K
    refine lv_iconst (v := nI 1) hx hb dX0_narrows_39 (by decide) ?_
    refine lv_goto (tgt := 44) hx hb dX0_narrows_40 (by decide) ?_
    exact n_top (by rw [show fewD (some u) k = true by simp [fewD]; omega]; decide) K
  refine lv_istore (lv' := [(7, .int (zb (fewD r k))), (0, .ref (c 0)), (1, .int (nI a)), (2, .int (nI b)), (3, .int (nI f)), (4, .int (nI (2 ^ S.str - 1))), (5, .int (oI r)), (6, .int (nI k))]) hx hb dX0_narrows_44 hl (by decide) rfl (fun ls hl => ?_)
  refine n_cut 84 [.int (oI (stD (cutQ S a b f) r k))] (fun K => ?_) ?_
  · refine lv_iload hx hb dX0_narrows_46 (lv_at hl 0 rfl) ?_
    refine z_if_eq (tgt := 82) hx hb dX0_narrows_48 (by decide) (fun h3 => ?_) (fun h3 => ?_)
    · refine lv_iload hx hb dX0_narrows_82 (lv_at hl 6 rfl) ?_
      exact n_top (by simp [stD, h3]) K
    have s1 := sumF_le hI (set := k) S.str (Nat.le_refl _)
    refine lv_aload_n hx hb dX0_narrows_51 rfl (lv_at hl 1 rfl) ?_
    refine lv_iload hx hb dX0_narrows_52 (lv_at hl 7 rfl) ?_
    refine va_callR (va_runV (As := [.int (nI k)]) (rest := []) ⟨hx, hb, hml, hown, hts⟩ (m_X0_widthsOf l D y c J S hI hO k (by omega)) (cwV 1 hts (lw_V q630 q632 qs14 q54 q633) rfl rfl rfl ⟨rfl, hd_X0_widthsOf⟩ ⟨Nat.le_of_ble_eq_true rfl, Nat.le_of_ble_eq_true rfl⟩) (preVR hC hP 0 0 rfl rfl) rfl rfl hl.1 rfl (lv_room (Nat.le_of_ble_eq_true rfl)) dX0_narrows_54 ⟨Nat.le_of_ble_eq_true rfl, Nat.le_of_ble_eq_true rfl⟩) ?_
    refine lv_iload_n hx hb dX0_narrows_57 rfl (lv_at hl 4 rfl) ?_
    refine n_icmp_ne (tgt := 82) hx hb dX0_narrows_58 (by decide) (by omega) (by omega) (fun h4 => ?_) (fun h4 => ?_)
    · refine lv_iload hx hb dX0_narrows_82 (lv_at hl 6 rfl) ?_
      exact n_top (by simp [stD, cutQ, h4]) K
    have a1 := andn_le (2 ^ S.str - 1) k
    refine lv_aload_n hx hb dX0_narrows_61 rfl (lv_at hl 1 rfl) ?_
    refine lv_iload_n hx hb dX0_narrows_62 rfl (lv_at hl 2 rfl) ?_
    refine lv_iload_n hx hb dX0_narrows_63 rfl (lv_at hl 3 rfl) ?_
    refine lv_iload hx hb dX0_narrows_64 (lv_at hl 5 rfl) ?_
    refine lv_iload hx hb dX0_narrows_66 (lv_at hl 7 rfl) ?_
    refine lv_iconst (v := (-1)) hx hb dX0_narrows_68 (by decide) ?_
    refine lv_ixor hx hb dX0_narrows_69 ?_
    refine lv_iand hx hb dX0_narrows_70 ?_
    refine n_top (y := nI (andn (2 ^ S.str - 1) k)) (nI_andn) ?_
    refine va_callR (va_runV (As := [.int (nI a), .int (nI b), .int (nI (andn (2 ^ S.str - 1) k))]) (rest := []) ⟨hx, hb, hml, hown, hts⟩ (m_X0_comes l D y c J S hI hO a b (andn (2 ^ S.str - 1) k) (by omega) (by omega) (by omega)) (cwV 3 hts (lw_V q661 q663 qs18 q54 q664) rfl rfl rfl ⟨rfl, hd_X0_comes⟩ ⟨Nat.le_of_ble_eq_true rfl, Nat.le_of_ble_eq_true rfl⟩) (preVR hC hP 0 0 rfl rfl) rfl rfl hl.1 rfl (lv_room (Nat.le_of_ble_eq_true rfl)) dX0_narrows_71 ⟨Nat.le_of_ble_eq_true rfl, Nat.le_of_ble_eq_true rfl⟩) ?_
    refine z_if_ne (tgt := 82) hx hb dX0_narrows_74 (by decide) (fun h5 => ?_) (fun h5 => ?_)
    · refine lv_iload hx hb dX0_narrows_82 (lv_at hl 6 rfl) ?_
      exact n_top (by simp [stD, cutQ, h5]) K
    refine lv_iload hx hb dX0_narrows_77 (lv_at hl 7 rfl) ?_
    refine lv_goto (tgt := 84) hx hb dX0_narrows_79 (by decide) ?_
    exact n_top (by simp [stD, cutQ, h3, h4, h5, oI]) K
  refine lv_istore (lv' := [(5, .int (oI (stD (cutQ S a b f) r k))), (7, .int (zb (fewD r k))), (0, .ref (c 0)), (1, .int (nI a)), (2, .int (nI b)), (3, .int (nI f)), (4, .int (nI (2 ^ S.str - 1))), (6, .int (nI k))]) hx hb dX0_narrows_84 hl (by decide) rfl (fun ls hl => ?_)
  refine lv_iinc (v := dn k) (lv' := [(6, .int (dn k)), (5, .int (oI (stD (cutQ S a b f) r k))), (7, .int (zb (fewD r k))), (0, .ref (c 0)), (1, .int (nI a)), (2, .int (nI b)), (3, .int (nI f)), (4, .int (nI (2 ^ S.str - 1)))]) hx hb dX0_narrows_86 hl (k := 7) rfl (rfl) (by decide) rfl (fun ls hl => ?_)
  refine lv_goto (tgt := 14) hx hb dX0_narrows_89 (by decide) ?_
  exact ih (k, stD (cutQ S a b f) r k) (⟨by omega, hm.down (by omega)⟩) (by omega) ls (lv_sub hl [3, 4, 5, 6, 7, 1, 0] rfl)
theorem hd_X0_need : yX0_need.cls ≠ "java/lang/invoke/MethodHandle" ∧ yX0_need.cls ≠ "java/lang/invoke/VarHandle" ∧ (parseMethodDescriptor yX0_need.desc).map (fun d => d.parameters.length) = some 3 := by decide +kernel
/-- X0_need -/
theorem m_X0_need (l : Launch) (D : va_G) (y : Nat → ClassId) (c : Nat → Nat) (J : XJ) (S : St) (hI : StOk S) (hO : XOk S J) (a b w : Int32) : Met l yX0_need (ws_ yX0_need cX0_need 9 (some .int)) ({ frames := 4, cells := 0, slots := 0, locals := 93 }) (va_Pc [.ref (c 0), .int a, .int b, .int w] (WR D y (cellsX y c J))) (QcRead (ansNeed S a b w)) 0 0 (fun _ => False) := by
  refine x_start (by decide) (Nat.le_of_ble_eq_true rfl) ?_
  intro p e s m below meth cd ls hx hb hr hts hml hown hlocks hnm hB hl
  have hC := hB.1
  obtain ⟨⟨hK, hN⟩, hP⟩ := hB
  have hown : s.vm.findClass RX0 = some m.cls := hown
  have hl : lv_has ls 9 [(0, .ref (c 0)), (1, .int a), (2, .int b), (3, .int w)] := hl
  have i1 := hI.str
  have i0 := hI.yds
  have i2 := p512 i1
  have i3 := Nat.two_pow_pos S.str
  refine lv_aload_n hx hb dX0_need_0 rfl (lv_at hl 0 rfl) ?_
  refine lv_iload_n hx hb dX0_need_1 rfl (lv_at hl 1 rfl) ?_
  refine lv_iload_n hx hb dX0_need_2 rfl (lv_at hl 2 rfl) ?_
  refine va_callR (va_runV (As := [.int a, .int b]) (rest := []) ⟨hx, hb, hml, hown, hts⟩ (m_X0_areYards l D y c J S hI hO a b) (cwV 2 hts (lw_V q653 q655 qs16 q54 q656) rfl rfl rfl ⟨rfl, hd_X0_areYards⟩ ⟨Nat.le_of_ble_eq_true rfl, Nat.le_of_ble_eq_true rfl⟩) (preVR hC hP 0 0 rfl rfl) rfl rfl hl.1 rfl (lv_room (Nat.le_of_ble_eq_true rfl)) dX0_need_3 ⟨Nat.le_of_ble_eq_true rfl, Nat.le_of_ble_eq_true rfl⟩) ?_
  refine z_if_eq (tgt := 16) hx hb dX0_need_6 (by decide) (fun h1 => ?_) (fun h1 => ?_)
  · refine lv_iconst (v := (-1)) hx hb dX0_need_16 (by decide) ?_
    exact n_iret (Qc := fun _ _ _ _ => True) hx hb hr hlocks (by rw [ansNeed, if_neg (bnf h1)]) dX0_need_17
  have h0 := h1
  obtain ⟨i, j, hi, hj, hij, rfl, rfl⟩ := arY_of hI h1
  refine lv_iload_n hx hb dX0_need_9 rfl (lv_at hl 3 rfl) ?_
  refine va_callR (va_runS (As := [.int w]) (rest := []) ⟨hx, hb, hml, hown, hts⟩ (m_X0_isWidth l w) (va_cwS 1 hts (lw_S q678 q679 q54 q680) rfl rfl rfl hd_X0_isWidth ⟨Nat.le_of_ble_eq_true rfl, Nat.le_of_ble_eq_true rfl⟩) pre0 rfl rfl hl.1 rfl (lv_room (Nat.le_of_ble_eq_true rfl)) dX0_need_10 ⟨Nat.le_of_ble_eq_true rfl, Nat.le_of_ble_eq_true rfl⟩) ?_
  refine z_if_ne (tgt := 18) hx hb dX0_need_13 (by decide) (fun h2 => ?_) (fun h2 => ?_)
  rotate_left
  · refine lv_iconst (v := (-1)) hx hb dX0_need_16 (by decide) ?_
    exact n_iret (Qc := fun _ _ _ _ => True) hx hb hr hlocks (by rw [ansNeed, if_pos h0, if_neg (bnf h2)]) dX0_need_17
  have h3 := h2
  obtain ⟨x, hk1, hk2, rfl⟩ := inI_of (by omega) (by omega) h2
  have hw := Nat.lt_of_lt_of_le (wideF_lt (S := S) (w := x) S.str) i2
  have hw2 := wideF_lt (S := S) (w := x) S.str
  refine lv_aload_n hx hb dX0_need_18 rfl (lv_at hl 0 rfl) ?_
  refine lv_iload_n hx hb dX0_need_19 rfl (lv_at hl 3 rfl) ?_
  refine va_callR (va_runV (As := [.int (nI x)]) (rest := []) ⟨hx, hb, hml, hown, hts⟩ (m_X0_wide l D y c J S hI hO x (by omega)) (cwV 1 hts (lw_V q657 q659 qs17 q54 q660) rfl rfl rfl ⟨rfl, hd_X0_wide⟩ ⟨Nat.le_of_ble_eq_true rfl, Nat.le_of_ble_eq_true rfl⟩) (preVR hC hP 0 0 rfl rfl) rfl rfl hl.1 rfl (lv_room (Nat.le_of_ble_eq_true rfl)) dX0_need_20 ⟨Nat.le_of_ble_eq_true rfl, Nat.le_of_ble_eq_true rfl⟩) ?_
  refine lv_istore (lv' := [(4, .int (nI (wideF S x S.str))), (0, .ref (c 0)), (1, .int (nI i)), (2, .int (nI j)), (3, .int (nI x))]) hx hb dX0_need_23 hl (by decide) rfl (fun ls hl => ?_)
  refine lv_aload_n hx hb dX0_need_25 rfl (lv_at hl 1 rfl) ?_
  refine va_callR (va_runV (As := []) (rest := []) ⟨hx, hb, hml, hown, hts⟩ (m_X0_allStreets l D y c J S hI hO) (cwV 0 hts (lw_V q626 q628 qs13 q54 q629) rfl rfl rfl ⟨rfl, hd_X0_allStreets⟩ ⟨Nat.le_of_ble_eq_true rfl, Nat.le_of_ble_eq_true rfl⟩) (preVR hC hP 0 0 rfl rfl) rfl rfl hl.1 rfl (lv_room (Nat.le_of_ble_eq_true rfl)) dX0_need_26 ⟨Nat.le_of_ble_eq_true rfl, Nat.le_of_ble_eq_true rfl⟩) ?_
  refine lv_iload hx hb dX0_need_29 (lv_at hl 0 rfl) ?_
  refine lv_iconst (v := (-1)) hx hb dX0_need_31 (by decide) ?_
  refine lv_ixor hx hb dX0_need_32 ?_
  refine lv_iand hx hb dX0_need_33 ?_
  refine n_top (y := nI (andn (2 ^ S.str - 1) (wideF S x S.str))) (nI_andn) ?_
  refine lv_istore (lv' := [(5, .int (nI (andn (2 ^ S.str - 1) (wideF S x S.str)))), (4, .int (nI (wideF S x S.str))), (0, .ref (c 0)), (1, .int (nI i)), (2, .int (nI j)), (3, .int (nI x))]) hx hb dX0_need_34 hl (by decide) rfl (fun ls hl => ?_)
  have ha1 := andn_le (2 ^ S.str - 1) (wideF S x S.str)
  refine lv_bipush (v := (-9)) hx hb dX0_need_36 (by decide) ?_
  refine lv_istore (lv' := [(6, .int (-9)), (5, .int (nI (andn (2 ^ S.str - 1) (wideF S x S.str)))), (4, .int (nI (wideF S x S.str))), (0, .ref (c 0)), (1, .int (nI i)), (2, .int (nI j)), (3, .int (nI x))]) hx hb dX0_need_38 hl (by decide) rfl (fun ls hl => ?_)
  refine lv_iload hx hb dX0_need_40 (lv_at hl 1 rfl) ?_
  refine lv_istore (lv' := [(7, .int (nI (andn (2 ^ S.str - 1) (wideF S x S.str)))), (6, .int (-9)), (5, .int (nI (andn (2 ^ S.str - 1) (wideF S x S.str)))), (4, .int (nI (wideF S x S.str))), (0, .ref (c 0)), (1, .int (nI i)), (2, .int (nI j)), (3, .int (nI x))]) hx hb dX0_need_42 hl (by decide) rfl (fun ls hl => ?_)
  have hl : lv_has ls 9 [(7, .int (dn (andn (2 ^ S.str - 1) (wideF S x S.str) + 1))), (6, .int (oI none)), (5, .int (nI (andn (2 ^ S.str - 1) (wideF S x S.str)))), (4, .int (nI (wideF S x S.str))), (0, .ref (c 0)), (1, .int (nI i)), (2, .int (nI j))] := by rw [dn_s]; exact lv_sub hl [0, 1, 2, 3, 4, 5, 6] rfl
  generalize hM : andn (2 ^ S.str - 1) (wideF S x S.str) = may at hl ha1
  generalize hH : wideF S x S.str = had at hl hw hw2 hM
  refine w_loop (nL := 9) 44 (fun a_ => [(0, .ref (c 0)), (1, .int (nI i)), (2, .int (nI j)), (4, .int (nI had)), (5, .int (nI may)), (6, .int (oI a_.2)), (7, .int (dn a_.1))]) (fun a_ => a_.1 ≤ may + 1 ∧ IsMin (neeX S i j had may) a_.1 (may + 1) a_.2) (fun a_ => a_.1) ?_ (may + 1, none) (⟨by omega, fun v h1 h2 => by omega⟩) ls (lv_sub hl [4, 5, 6, 3, 2, 1, 0] rfl)
  rintro ⟨q, r⟩ hi ih ls hl
  have hi : q ≤ may + 1 ∧ IsMin (neeX S i j had may) q (may + 1) r := hi
  have hl : lv_has ls 9 [(0, .ref (c 0)), (1, .int (nI i)), (2, .int (nI j)), (4, .int (nI had)), (5, .int (nI may)), (6, .int (oI r)), (7, .int (dn q))] := hl
  obtain ⟨hq, hm⟩ := hi
  refine lv_iload hx hb dX0_need_44 (lv_at hl 6 rfl) ?_
  refine lv_if_lt (tgt := 120) hx hb dX0_need_46 (by decide) (fun h1 => ?_) (fun h1 => ?_)
  · have h2 := (dn_neg (by omega)).mp h1
    subst h2
    subst hH; subst hM
    refine lv_iload hx hb dX0_need_120 (lv_at hl 5 rfl) ?_
    exact n_iret (Qc := fun _ _ _ _ => True) hx hb hr hlocks (by rw [ansNeed, if_pos h0, if_pos h3, idx_nI (by omega), idx_nI (by omega), idx_nI (by omega), (need_min hI hm).uniq (minF_is _ _)]) dX0_need_122
  obtain ⟨k, rfl⟩ : ∃ k, q = k + 1 := ⟨q - 1, by have h2 := mt (dn_neg (by omega)).mpr h1; omega⟩
  rw [dn_s] at hl
  have hl : lv_has ls 9 [(0, .ref (c 0)), (1, .int (nI i)), (2, .int (nI j)), (4, .int (nI had)), (5, .int (nI may)), (6, .int (oI r)), (7, .int (nI k))] := hl
  refine n_cut 74 [.int (zb (fewD r k))] (fun K => ?_) ?_
  · rcases r with _ | u
    · have hl : lv_has ls 9 [(0, .ref (c 0)), (1, .int (nI i)), (2, .int (nI j)), (4, .int (nI had)), (5, .int (nI may)), (6, .int (-9)), (7, .int (nI k))] := hl
      refine lv_iload hx hb dX0_need_49 (lv_at hl 5 rfl) ?_
      refine lv_bipush (v := (-9)) hx hb dX0_need_51 (by decide) ?_
      refine lv_icmp_eq (tgt := 69) hx hb dX0_need_53 (by decide) (fun h8 => ?_) (fun h8 => ?_)
      · refine lv_iconst (v := nI 1) hx hb dX0_need_69 (by decide) ?_
        refine lv_goto (tgt := 74) hx hb dX0_need_70 (by decide) ?_
        exact K
      exact absurd rfl h8
    have hl : lv_has ls 9 [(0, .ref (c 0)), (1, .int (nI i)), (2, .int (nI j)), (4, .int (nI had)), (5, .int (nI may)), (6, .int (nI u)), (7, .int (nI k))] := hl
    have hu : u < 512 := by have := hm.lt rfl; omega
    refine lv_iload hx hb dX0_need_49 (lv_at hl 5 rfl) ?_
    refine lv_bipush (v := (-9)) hx hb dX0_need_51 (by decide) ?_
    refine lv_icmp_eq (tgt := 69) hx hb dX0_need_53 (by decide) (fun h8 => ?_) (fun h8 => ?_)
    · exact absurd h8 (nI_ne9 (by omega))
    have b1 := bits_10 k
    have b2 := bits_10 u
    refine lv_iload hx hb dX0_need_56 (lv_at hl 6 rfl) ?_
    refine va_callR (va_runS (As := [.int (nI k)]) (rest := []) ⟨hx, hb, hml, hown, hts⟩ (m_J8_bitCount l k (by omega)) (va_cwS 1 hts (lw_S q604 q605 q76 q606) rfl rfl rfl hd_J8_bitCount ⟨Nat.le_of_ble_eq_true rfl, Nat.le_of_ble_eq_true rfl⟩) pre0 rfl rfl hl.1 rfl (lv_room (Nat.le_of_ble_eq_true rfl)) dX0_need_58 ⟨Nat.le_of_ble_eq_true rfl, Nat.le_of_ble_eq_true rfl⟩) ?_
    refine lv_iload hx hb dX0_need_61 (lv_at hl 5 rfl) ?_
    refine va_callR (va_runS (As := [.int (nI u)]) (rest := [.int (nI (bits k))]) ⟨hx, hb, hml, hown, hts⟩ (m_J8_bitCount l u (by omega)) (va_cwS 1 hts (lw_S q604 q605 q76 q606) rfl rfl rfl hd_J8_bitCount ⟨Nat.le_of_ble_eq_true rfl, Nat.le_of_ble_eq_true rfl⟩) pre0 rfl rfl hl.1 rfl (lv_room (Nat.le_of_ble_eq_true rfl)) dX0_need_63 ⟨Nat.le_of_ble_eq_true rfl, Nat.le_of_ble_eq_true rfl⟩) ?_
    refine n_icmp_gt (tgt := 73) hx hb dX0_need_66 (by decide) (by omega) (by omega) (fun h9 => ?_) (fun h9 => ?_)
    · refine lv_iconst (v := nI 0) hx hb dX0_need_73 (by decide) ?_
      exact n_top (by rw [show fewD (some u) k = false by simp [fewD]; omega]; decide) K
    refine lv_iconst (v := nI 1) hx hb dX0_need_69 (by decide) ?_
    refine lv_goto (tgt := 74) hx hb dX0_need_70 (by decide) ?_
    exact n_top (by rw [show fewD (some u) k = true by simp [fewD]; omega]; decide) K
  refine lv_istore (lv' := [(8, .int (zb (fewD r k))), (0, .ref (c 0)), (1, .int (nI i)), (2, .int (nI j)), (4, .int (nI had)), (5, .int (nI may)), (6, .int (oI r)), (7, .int (nI k))]) hx hb dX0_need_74 hl (by decide) rfl (fun ls hl => ?_)
  have a2 := andn_le k may
  have o1 : had ||| k < 512 := Nat.or_lt_two_pow (n := 9) (by omega) (by omega)
  refine n_cut 112 [.int (oI (stD (neeX S i j had may) r k))] (fun K => ?_) ?_
  · refine lv_iload hx hb dX0_need_76 (lv_at hl 7 rfl) ?_
    refine lv_iload hx hb dX0_need_78 (lv_at hl 5 rfl) ?_
    refine lv_iconst (v := (-1)) hx hb dX0_need_80 (by decide) ?_
    refine lv_ixor hx hb dX0_need_81 ?_
    refine lv_iand hx hb dX0_need_82 ?_
    refine n_top (y := nI (andn k may)) (nI_andn) ?_
    refine n_if_ne (tgt := 110) hx hb dX0_need_83 (by decide) (by omega) (fun h4 => ?_) (fun h4 => ?_)
    · refine lv_iload hx hb dX0_need_110 (lv_at hl 6 rfl) ?_
      exact n_top (by simp [stD, neeX, h4]) K
    refine lv_iload hx hb dX0_need_86 (lv_at hl 0 rfl) ?_
    refine z_if_eq (tgt := 110) hx hb dX0_need_88 (by decide) (fun h5 => ?_) (fun h5 => ?_)
    · refine lv_iload hx hb dX0_need_110 (lv_at hl 6 rfl) ?_
      exact n_top (by simp [stD, h5]) K
    refine lv_aload_n hx hb dX0_need_91 rfl (lv_at hl 1 rfl) ?_
    refine lv_iload_n hx hb dX0_need_92 rfl (lv_at hl 2 rfl) ?_
    refine lv_iload_n hx hb dX0_need_93 rfl (lv_at hl 3 rfl) ?_
    refine lv_iload hx hb dX0_need_94 (lv_at hl 4 rfl) ?_
    refine lv_iload hx hb dX0_need_96 (lv_at hl 7 rfl) ?_
    refine n_or hx hb dX0_need_98 ?_
    refine va_callR (va_runV (As := [.int (nI i), .int (nI j), .int (nI (had ||| k))]) (rest := []) ⟨hx, hb, hml, hown, hts⟩ (m_X0_comes l D y c J S hI hO i j (had ||| k) (by omega) (by omega) (by omega)) (cwV 3 hts (lw_V q661 q663 qs18 q54 q664) rfl rfl rfl ⟨rfl, hd_X0_comes⟩ ⟨Nat.le_of_ble_eq_true rfl, Nat.le_of_ble_eq_true rfl⟩) (preVR hC hP 0 0 rfl rfl) rfl rfl hl.1 rfl (lv_room (Nat.le_of_ble_eq_true rfl)) dX0_need_99 ⟨Nat.le_of_ble_eq_true rfl, Nat.le_of_ble_eq_true rfl⟩) ?_
    refine z_if_eq (tgt := 110) hx hb dX0_need_102 (by decide) (fun h6 => ?_) (fun h6 => ?_)
    · refine lv_iload hx hb dX0_need_110 (lv_at hl 6 rfl) ?_
      exact n_top (by simp [stD, neeX, h6]) K
    refine lv_iload hx hb dX0_need_105 (lv_at hl 7 rfl) ?_
    refine lv_goto (tgt := 112) hx hb dX0_need_107 (by decide) ?_
    exact n_top (by simp [stD, neeX, h4, h5, h6, oI]) K
  refine lv_istore (lv' := [(6, .int (oI (stD (neeX S i j had may) r k))), (8, .int (zb (fewD r k))), (0, .ref (c 0)), (1, .int (nI i)), (2, .int (nI j)), (4, .int (nI had)), (5, .int (nI may)), (7, .int (nI k))]) hx hb dX0_need_112 hl (by decide) rfl (fun ls hl => ?_)
  refine lv_iinc (v := dn k) (lv' := [(7, .int (dn k)), (6, .int (oI (stD (neeX S i j had may) r k))), (8, .int (zb (fewD r k))), (0, .ref (c 0)), (1, .int (nI i)), (2, .int (nI j)), (4, .int (nI had)), (5, .int (nI may))]) hx hb dX0_need_114 hl (k := 7) rfl (rfl) (by decide) rfl (fun ls hl => ?_)
  refine lv_goto (tgt := 44) hx hb dX0_need_117 (by decide) ?_
  exact ih (k, stD (neeX S i j had may) r k) (⟨by omega, hm.down (by omega)⟩) (by omega) ls (lv_sub hl [3, 4, 5, 6, 7, 1, 0] rfl)
theorem hd_X0_odds : yX0_odds.cls ≠ "java/lang/invoke/MethodHandle" ∧ yX0_odds.cls ≠ "java/lang/invoke/VarHandle" ∧ (parseMethodDescriptor yX0_odds.desc).map (fun d => d.parameters.length) = some 4 := by decide +kernel
/-- X0_odds -/
theorem m_X0_odds (l : Launch) (D : va_G) (y : Nat → ClassId) (c : Nat → Nat) (J : XJ) (S : St) (hI : StOk S) (hO : XOk S J) (a b x w : Int32) : Met l yX0_odds (ws_ yX0_odds cX0_odds 8 (some .int)) ({ frames := 4, cells := 0, slots := 0, locals := 93 }) (va_Pc [.ref (c 0), .int a, .int b, .int x, .int w] (WR D y (cellsX y c J))) (QcRead (ansOdds S a b x w)) 0 0 (fun _ => False) := by
  refine x_start (by decide) (Nat.le_of_ble_eq_true rfl) ?_
  intro p e s m below meth cd ls hx hb hr hts hml hown hlocks hnm hB hl
  have hC := hB.1
  obtain ⟨⟨hK, hN⟩, hP⟩ := hB
  have hown : s.vm.findClass RX0 = some m.cls := hown
  have hl : lv_has ls 8 [(0, .ref (c 0)), (1, .int a), (2, .int b), (3, .int x), (4, .int w)] := hl
  have i1 := hI.str
  have i0 := hI.yds
  have i2 := p512 i1
  have i3 := Nat.two_pow_pos S.str
  refine lv_aload_n hx hb dX0_odds_0 rfl (lv_at hl 0 rfl) ?_
  refine lv_iload_n hx hb dX0_odds_1 rfl (lv_at hl 1 rfl) ?_
  refine lv_iload_n hx hb dX0_odds_2 rfl (lv_at hl 2 rfl) ?_
  refine va_callR (va_runV (As := [.int a, .int b]) (rest := []) ⟨hx, hb, hml, hown, hts⟩ (m_X0_areYards l D y c J S hI hO a b) (cwV 2 hts (lw_V q653 q655 qs16 q54 q656) rfl rfl rfl ⟨rfl, hd_X0_areYards⟩ ⟨Nat.le_of_ble_eq_true rfl, Nat.le_of_ble_eq_true rfl⟩) (preVR hC hP 0 0 rfl rfl) rfl rfl hl.1 rfl (lv_room (Nat.le_of_ble_eq_true rfl)) dX0_odds_3 ⟨Nat.le_of_ble_eq_true rfl, Nat.le_of_ble_eq_true rfl⟩) ?_
  refine z_if_eq (tgt := 27) hx hb dX0_odds_6 (by decide) (fun h1 => ?_) (fun h1 => ?_)
  · refine lv_iconst (v := (-1)) hx hb dX0_odds_27 (by decide) ?_
    exact n_iret (Qc := fun _ _ _ _ => True) hx hb hr hlocks (by rw [ansOdds, if_neg (bnf h1)]) dX0_odds_28
  have h0 := h1
  obtain ⟨i, j, hi, hj, hij, rfl, rfl⟩ := arY_of hI h1
  refine lv_iload_n hx hb dX0_odds_9 rfl (lv_at hl 3 rfl) ?_
  refine lv_iconst (v := nI 0) hx hb dX0_odds_10 (by decide) ?_
  refine lv_bipush (v := nI 10) hx hb dX0_odds_11 (by decide) ?_
  refine va_callR (va_runS (As := [.int x, .int (nI 0), .int (nI 10)]) (rest := []) ⟨hx, hb, hml, hown, hts⟩ (m_X0_isIn l x (nI 0) (nI 10)) (va_cwS 3 hts (lw_S q81 q82 q54 q83) rfl rfl rfl hd_X0_isIn ⟨Nat.le_of_ble_eq_true rfl, Nat.le_of_ble_eq_true rfl⟩) pre0 rfl rfl hl.1 rfl (lv_room (Nat.le_of_ble_eq_true rfl)) dX0_odds_13 ⟨Nat.le_of_ble_eq_true rfl, Nat.le_of_ble_eq_true rfl⟩) ?_
  refine z_if_eq (tgt := 27) hx hb dX0_odds_16 (by decide) (fun h2 => ?_) (fun h2 => ?_)
  · refine lv_iconst (v := (-1)) hx hb dX0_odds_27 (by decide) ?_
    exact n_iret (Qc := fun _ _ _ _ => True) hx hb hr hlocks (by rw [ansOdds, if_pos h0, if_neg (bnf h2)]) dX0_odds_28
  have h3 := h2
  obtain ⟨z, hz1, hz2, rfl⟩ := inI_of (by omega) (by omega) h2
  refine lv_iload hx hb dX0_odds_19 (lv_at hl 4 rfl) ?_
  refine va_callR (va_runS (As := [.int w]) (rest := []) ⟨hx, hb, hml, hown, hts⟩ (m_X0_isBit l w) (va_cwS 1 hts (lw_S q592 q593 q54 q594) rfl rfl rfl hd_X0_isBit ⟨Nat.le_of_ble_eq_true rfl, Nat.le_of_ble_eq_true rfl⟩) pre0 rfl rfl hl.1 rfl (lv_room (Nat.le_of_ble_eq_true rfl)) dX0_odds_21 ⟨Nat.le_of_ble_eq_true rfl, Nat.le_of_ble_eq_true rfl⟩) ?_
  refine z_if_ne (tgt := 29) hx hb dX0_odds_24 (by decide) (fun h4 => ?_) (fun h4 => ?_)
  rotate_left
  · refine lv_iconst (v := (-1)) hx hb dX0_odds_27 (by decide) ?_
    exact n_iret (Qc := fun _ _ _ _ => True) hx hb hr hlocks (by rw [ansOdds, if_pos h0, if_pos h3, if_neg (bnf h4)]) dX0_odds_28
  have h5 := h4
  obtain ⟨t, ht1, ht2, rfl⟩ := inI_of (by omega) (by omega) h4
  refine lv_iconst (v := nI 0) hx hb dX0_odds_29 (by decide) ?_
  refine lv_istore (lv' := [(5, .int (nI 0)), (0, .ref (c 0)), (1, .int (nI i)), (2, .int (nI j)), (3, .int (nI z)), (4, .int (nI t))]) hx hb dX0_odds_30 hl (by decide) rfl (fun ls hl => ?_)
  refine lv_aload_n hx hb dX0_odds_32 rfl (lv_at hl 1 rfl) ?_
  refine va_callR (va_runV (As := []) (rest := []) ⟨hx, hb, hml, hown, hts⟩ (m_X0_allStreets l D y c J S hI hO) (cwV 0 hts (lw_V q626 q628 qs13 q54 q629) rfl rfl rfl ⟨rfl, hd_X0_allStreets⟩ ⟨Nat.le_of_ble_eq_true rfl, Nat.le_of_ble_eq_true rfl⟩) (preVR hC hP 0 0 rfl rfl) rfl rfl hl.1 rfl (lv_room (Nat.le_of_ble_eq_true rfl)) dX0_odds_33 ⟨Nat.le_of_ble_eq_true rfl, Nat.le_of_ble_eq_true rfl⟩) ?_
  refine lv_istore (lv' := [(6, .int (nI (2 ^ S.str - 1))), (5, .int (nI 0)), (0, .ref (c 0)), (1, .int (nI i)), (2, .int (nI j)), (3, .int (nI z)), (4, .int (nI t))]) hx hb dX0_odds_36 hl (by decide) rfl (fun ls hl => ?_)
  have hl : lv_has ls 8 [(6, .int (dn (2 ^ S.str - 1 + 1))), (5, .int (nI 0)), (0, .ref (c 0)), (1, .int (nI i)), (2, .int (nI j)), (3, .int (nI z)), (4, .int (nI t))] := by rw [dn_s]; exact hl
  refine w_loop (nL := 8) 38 (fun a_ => [(0, .ref (c 0)), (1, .int (nI i)), (2, .int (nI j)), (3, .int (nI z)), (4, .int (nI t)), (5, .int (nI a_.2)), (6, .int (dn a_.1))]) (fun a_ => a_.1 ≤ 2 ^ S.str ∧ a_.2 = sumFr (odG S i j z) a_.1 (2 ^ S.str - a_.1)) (fun a_ => a_.1) ?_ (2 ^ S.str - 1 + 1, 0) (⟨by omega, by rw [show 2 ^ S.str - (2 ^ S.str - 1 + 1) = 0 by omega]; rfl⟩) ls (lv_sub hl [2, 3, 4, 5, 6, 1, 0] rfl)
  rintro ⟨q, up⟩ hi ih ls hl
  have hi : q ≤ 2 ^ S.str ∧ up = sumFr (odG S i j z) q (2 ^ S.str - q) := hi
  have hl : lv_has ls 8 [(0, .ref (c 0)), (1, .int (nI i)), (2, .int (nI j)), (3, .int (nI z)), (4, .int (nI t)), (5, .int (nI up)), (6, .int (dn q))] := hl
  obtain ⟨hq, he⟩ := hi
  refine lv_iload hx hb dX0_odds_38 (lv_at hl 6 rfl) ?_
  refine lv_if_lt (tgt := 96) hx hb dX0_odds_40 (by decide) (fun h6 => ?_) (fun h6 => ?_)
  · have h7 := (dn_neg (by omega)).mp h6
    subst h7
    have t1 := od_tail hI (a := i) (b := j) (x := z) hz2 (k := 0) (Nat.zero_le _)
    rw [Nat.sub_zero] at t1 he
    rw [← he] at t1
    have t2 := p10 i1
    have t3 := Nat.pow_pos (n := S.str) (show 0 < 10 by omega)
    have g1 := Nat.gcd_pos_of_pos_right up t3
    have g2 := Nat.gcd_le_right up t3
    refine lv_bipush (v := nI 10) hx hb dX0_odds_96 (by decide) ?_
    refine lv_aload_n hx hb dX0_odds_98 rfl (lv_at hl 0 rfl) ?_
    refine va_get (D := D) (ci := 0) (v := .ref (c 1)) (C := RX0) (T := TX0) (N := 19) hx hb hts in_X0 hown hK hP 0 rfl rfl 0 (by decide) (hts _ q485) (fun _ h9 => h9) rfl dX0_odds_99 ?_
    refine va_getN (D := D) (ci := 1) (v := .int (nI S.str)) (C := RX1) (T := TX1) (N := 8) hx hb hts in_X1 hown hK hP 1 rfl rfl 1 (by decide) (va_Nw.use rfl (hN _ q322 rfl)) (fun _ h9 => h9) (sv hO.str) dX0_odds_102 ?_
    refine va_callR (va_runS (As := [.int (nI 10), .int (nI S.str)]) (rest := []) ⟨hx, hb, hml, hown, hts⟩ (m_X0_power l 10 S.str (by omega)) (va_cwS 2 hts (lw_S q719 q720 q54 q721) rfl rfl rfl hd_X0_power ⟨Nat.le_of_ble_eq_true rfl, Nat.le_of_ble_eq_true rfl⟩) pre0 rfl rfl hl.1 rfl (lv_room (Nat.le_of_ble_eq_true rfl)) dX0_odds_105 ⟨Nat.le_of_ble_eq_true rfl, Nat.le_of_ble_eq_true rfl⟩) ?_
    refine lv_istore (lv' := [(6, .int (nI (10 ^ S.str))), (0, .ref (c 0)), (1, .int (nI i)), (2, .int (nI j)), (3, .int (nI z)), (4, .int (nI t)), (5, .int (nI up))]) hx hb dX0_odds_108 hl (by decide) rfl (fun ls hl => ?_)
    refine lv_iload hx hb dX0_odds_110 (lv_at hl 6 rfl) ?_
    refine lv_iload hx hb dX0_odds_112 (lv_at hl 0 rfl) ?_
    refine va_callR (va_runS (As := [.int (nI up), .int (nI (10 ^ S.str))]) (rest := []) ⟨hx, hb, hml, hown, hts⟩ (m_X0_gcd l up (10 ^ S.str) (by omega) (by omega)) (va_cwS 2 hts (lw_S q722 q723 q54 q724) rfl rfl rfl hd_X0_gcd ⟨Nat.le_of_ble_eq_true rfl, Nat.le_of_ble_eq_true rfl⟩) pre0 rfl rfl hl.1 rfl (lv_room (Nat.le_of_ble_eq_true rfl)) dX0_odds_114 ⟨Nat.le_of_ble_eq_true rfl, Nat.le_of_ble_eq_true rfl⟩) ?_
    refine lv_istore (lv' := [(7, .int (nI (Nat.gcd up (10 ^ S.str)))), (6, .int (nI (10 ^ S.str))), (0, .ref (c 0)), (1, .int (nI i)), (2, .int (nI j)), (3, .int (nI z)), (4, .int (nI t)), (5, .int (nI up))]) hx hb dX0_odds_117 hl (by decide) rfl (fun ls hl => ?_)
    refine lv_iload hx hb dX0_odds_119 (lv_at hl 6 rfl) ?_
    refine n_if_ne (tgt := 132) hx hb dX0_odds_121 (by decide) (by omega) (fun h8 => ?_) (fun h8 => ?_)
    rotate_left
    · refine lv_iload hx hb dX0_odds_124 (lv_at hl 7 rfl) ?_
      refine lv_iload hx hb dX0_odds_126 (lv_at hl 0 rfl) ?_
      refine n_div hx hb dX0_odds_128 (by omega) (by omega) (by omega) ?_
      refine lv_goto (tgt := 137) hx hb dX0_odds_129 (by decide) ?_
      exact n_iret (Qc := fun _ _ _ _ => True) hx hb hr hlocks (by rw [ansOdds, if_pos h0, if_pos h3, if_pos h5, h8, if_pos rfl, idx_nI (by omega), idx_nI (by omega), idx_nI (by omega)]; rw [odUp, ← he]) dX0_odds_137
    refine lv_iload hx hb dX0_odds_132 (lv_at hl 1 rfl) ?_
    refine lv_iload hx hb dX0_odds_134 (lv_at hl 0 rfl) ?_
    refine n_div hx hb dX0_odds_136 (by omega) (by omega) (by omega) ?_
    exact n_iret (Qc := fun _ _ _ _ => True) hx hb hr hlocks (by rw [ansOdds, if_pos h0, if_pos h3, if_pos h5, if_neg (by rw [nI_eq (by omega) (by omega)]; exact h8), idx_nI (by omega), idx_nI (by omega), idx_nI (by omega)]; rw [odUp, ← he]) dX0_odds_137
  obtain ⟨k, rfl⟩ : ∃ k, q = k + 1 := ⟨q - 1, by have h2 := mt (dn_neg (by omega)).mpr h6; omega⟩
  rw [dn_s] at hl
  have hl : lv_has ls 8 [(0, .ref (c 0)), (1, .int (nI i)), (2, .int (nI j)), (3, .int (nI z)), (4, .int (nI t)), (5, .int (nI up)), (6, .int (nI k))] := hl
  rw [show 2 ^ S.str - (k + 1) = 2 ^ S.str - k - 1 by omega] at he
  have e5 : sumFr (odG S i j z) k (2 ^ S.str - k) = odG S i j z k + sumFr (odG S i j z) (k + 1) (2 ^ S.str - k - 1) := by rw [show 2 ^ S.str - k = (2 ^ S.str - k - 1) + 1 by omega]; rfl
  have b1 := bits_le (show k < 2 ^ S.str by omega) (by omega)
  refine lv_aload_n hx hb dX0_odds_43 rfl (lv_at hl 0 rfl) ?_
  refine lv_iload_n hx hb dX0_odds_44 rfl (lv_at hl 1 rfl) ?_
  refine lv_iload_n hx hb dX0_odds_45 rfl (lv_at hl 2 rfl) ?_
  refine lv_iload hx hb dX0_odds_46 (lv_at hl 6 rfl) ?_
  refine va_callR (va_runV (As := [.int (nI i), .int (nI j), .int (nI k)]) (rest := []) ⟨hx, hb, hml, hown, hts⟩ (m_X0_comes l D y c J S hI hO i j k (by omega) (by omega) (by omega)) (cwV 3 hts (lw_V q661 q663 qs18 q54 q664) rfl rfl rfl ⟨rfl, hd_X0_comes⟩ ⟨Nat.le_of_ble_eq_true rfl, Nat.le_of_ble_eq_true rfl⟩) (preVR hC hP 0 0 rfl rfl) rfl rfl hl.1 rfl (lv_room (Nat.le_of_ble_eq_true rfl)) dX0_odds_48 ⟨Nat.le_of_ble_eq_true rfl, Nat.le_of_ble_eq_true rfl⟩) ?_
  refine z_if_eq (tgt := 90) hx hb dX0_odds_51 (by decide) (fun h9 => ?_) (fun h9 => ?_)
  · refine lv_iinc (v := dn k) (lv' := [(6, .int (dn k)), (0, .ref (c 0)), (1, .int (nI i)), (2, .int (nI j)), (3, .int (nI z)), (4, .int (nI t)), (5, .int (nI up))]) hx hb dX0_odds_90 hl (k := 6) rfl (rfl) (by decide) rfl (fun ls hl => ?_)
    refine lv_goto (tgt := 38) hx hb dX0_odds_93 (by decide) ?_
    exact ih (k, up) (⟨by omega, by rw [e5, odG, if_neg (bnf h9)]; omega⟩) (by omega) ls (lv_sub hl [1, 2, 3, 4, 5, 6, 0] rfl)
  refine lv_iload hx hb dX0_odds_54 (lv_at hl 6 rfl) ?_
  refine va_callR (va_runS (As := [.int (nI k)]) (rest := []) ⟨hx, hb, hml, hown, hts⟩ (m_J8_bitCount l k (by omega)) (va_cwS 1 hts (lw_S q604 q605 q76 q606) rfl rfl rfl hd_J8_bitCount ⟨Nat.le_of_ble_eq_true rfl, Nat.le_of_ble_eq_true rfl⟩) pre0 rfl rfl hl.1 rfl (lv_room (Nat.le_of_ble_eq_true rfl)) dX0_odds_56 ⟨Nat.le_of_ble_eq_true rfl, Nat.le_of_ble_eq_true rfl⟩) ?_
  refine lv_istore (lv' := [(7, .int (nI (bits k))), (0, .ref (c 0)), (1, .int (nI i)), (2, .int (nI j)), (3, .int (nI z)), (4, .int (nI t)), (5, .int (nI up)), (6, .int (nI k))]) hx hb dX0_odds_59 hl (by decide) rfl (fun ls hl => ?_)
  refine lv_iload hx hb dX0_odds_61 (lv_at hl 6 rfl) ?_
  refine lv_bipush (v := nI 10) hx hb dX0_odds_63 (by decide) ?_
  refine lv_iload_n hx hb dX0_odds_65 rfl (lv_at hl 4 rfl) ?_
  refine n_sub hx hb dX0_odds_66 (by omega) ?_
  refine lv_iload hx hb dX0_odds_67 (lv_at hl 0 rfl) ?_
  refine va_callR (va_runS (As := [.int (nI (10 - z)), .int (nI (bits k))]) (rest := [.int (nI up)]) ⟨hx, hb, hml, hown, hts⟩ (m_X0_power l (10 - z) (bits k) (by omega)) (va_cwS 2 hts (lw_S q719 q720 q54 q721) rfl rfl rfl hd_X0_power ⟨Nat.le_of_ble_eq_true rfl, Nat.le_of_ble_eq_true rfl⟩) pre0 rfl rfl hl.1 rfl (lv_room (Nat.le_of_ble_eq_true rfl)) dX0_odds_69 ⟨Nat.le_of_ble_eq_true rfl, Nat.le_of_ble_eq_true rfl⟩) ?_
  refine lv_iload_n hx hb dX0_odds_72 rfl (lv_at hl 4 rfl) ?_
  refine lv_aload_n hx hb dX0_odds_73 rfl (lv_at hl 1 rfl) ?_
  refine va_get (D := D) (ci := 0) (v := .ref (c 1)) (C := RX0) (T := TX0) (N := 19) hx hb hts in_X0 hown hK hP 0 rfl rfl 0 (by decide) (hts _ q485) (fun _ h9 => h9) rfl dX0_odds_74 ?_
  refine va_getN (D := D) (ci := 1) (v := .int (nI S.str)) (C := RX1) (T := TX1) (N := 8) hx hb hts in_X1 hown hK hP 1 rfl rfl 1 (by decide) (va_Nw.use rfl (hN _ q322 rfl)) (fun _ h9 => h9) (sv hO.str) dX0_odds_77 ?_
  refine lv_iload hx hb dX0_odds_80 (lv_at hl 0 rfl) ?_
  refine n_sub hx hb dX0_odds_82 (by omega) ?_
  refine va_callR (va_runS (As := [.int (nI z), .int (nI (S.str - (bits k)))]) (rest := [.int (nI ((10 - z) ^ (bits k))), .int (nI up)]) ⟨hx, hb, hml, hown, hts⟩ (m_X0_power l z (S.str - (bits k)) (by omega)) (va_cwS 2 hts (lw_S q719 q720 q54 q721) rfl rfl rfl hd_X0_power ⟨Nat.le_of_ble_eq_true rfl, Nat.le_of_ble_eq_true rfl⟩) pre0 rfl rfl hl.1 rfl (lv_room (Nat.le_of_ble_eq_true rfl)) dX0_odds_83 ⟨Nat.le_of_ble_eq_true rfl, Nat.le_of_ble_eq_true rfl⟩) ?_
  refine n_mul hx hb dX0_odds_86 ?_
  refine n_add hx hb dX0_odds_87 ?_
  refine lv_istore (lv' := [(5, .int (nI (up + (((10 - z) ^ (bits k)) * (z ^ (S.str - (bits k))))))), (7, .int (nI (bits k))), (0, .ref (c 0)), (1, .int (nI i)), (2, .int (nI j)), (3, .int (nI z)), (4, .int (nI t)), (6, .int (nI k))]) hx hb dX0_odds_88 hl (by decide) rfl (fun ls hl => ?_)
  refine lv_iinc (v := dn k) (lv' := [(6, .int (dn k)), (5, .int (nI (up + (((10 - z) ^ (bits k)) * (z ^ (S.str - (bits k))))))), (7, .int (nI (bits k))), (0, .ref (c 0)), (1, .int (nI i)), (2, .int (nI j)), (3, .int (nI z)), (4, .int (nI t))]) hx hb dX0_odds_90 hl (k := 7) rfl (rfl) (by decide) rfl (fun ls hl => ?_)
  refine lv_goto (tgt := 38) hx hb dX0_odds_93 (by decide) ?_
  exact ih (k, up + (10 - z) ^ bits k * z ^ (S.str - bits k)) (⟨by omega, by rw [e5, odG, if_pos h9]; omega⟩) (by omega) ls (lv_sub hl [3, 4, 5, 6, 7, 1, 0] rfl)
