/-! component: carriage -/
set_option maxRecDepth 100000
theorem hd_X0_carriage : yX0_carriage.cls ≠ "java/lang/invoke/MethodHandle" ∧ yX0_carriage.cls ≠ "java/lang/invoke/VarHandle" ∧ (parseMethodDescriptor yX0_carriage.desc).map (fun d => d.parameters.length) = some 1 := by decide +kernel
/-- X0_carriage -/
theorem m_X0_carriage (l : Launch) (D : va_G) (y : Nat → ClassId) (c : Nat → Nat) (J : XJ) (S : St) (hI : StOk S) (hO : XOk S J) (v : Int32) : Met l yX0_carriage (ws_ yX0_carriage cX0_carriage 2 (some .int)) ({ frames := 8, cells := 0, slots := 0, locals := 288 }) (va_Pc [.ref (c 0), .int v] (WH D y (XA c) (cellsX y c J))) (va_Qi (fun r (J' : XJ) => r = ansCar S v ∧ XOk S J') (fun (J' : XJ) t => WH D y (XA c) (cellsX y c J') t) (XA c)) 0 0 (XA c) := by
  refine x_start (by decide) (Nat.le_of_ble_eq_true rfl) ?_
  intro p e s m below meth cd ls hx hb hr hts hml hown hlocks hnm hB hl
  have hC := hB.1
  obtain ⟨⟨hK, hN⟩, hP, hD⟩ := hB
  have hS : va_S (XA c) s.heap s.heap [] := va_S.rf
  have hown : s.vm.findClass RX0 = some m.cls := hown
  have hl : lv_has ls 2 [(0, .ref (c 0)), (1, .int v)] := hl
  have i1 := hI.str
  have i2 := hI.ppl
  have t1 : 2 ^ S.str ≤ 2 ^ 9 := Nat.pow_le_pow_right (by omega) i1
  refine lv_iload_n hx hb dX0_carriage_0 rfl (lv_at hl 1 rfl) ?_
  refine lv_iconst (v := (-1)) hx hb dX0_carriage_1 (by decide) ?_
  refine lv_icmp_eq (tgt := 15) hx hb dX0_carriage_2 (by decide) (fun h1 => ?_) (fun h1 => ?_)
  · subst h1
    refine lv_aload_n hx hb dX0_carriage_15 rfl (lv_at hl 0 rfl) ?_
    refine lv_iconst (v := (-1)) hx hb dX0_carriage_16 (by decide) ?_
    refine va_put (D := D) (ci := 0) (v := .int (-1)) (ty := .int) (C := RX0) (T := TX0) (N := 19) hx hb hts in_X0 tyX0 tyX0_ok nmX0 hown hK hP hD hS 0 rfl rfl 13 (by decide) (hts _ q504) (fun _ h9 => h9) rfl (by decide +kernel) rfl rfl (Nat.le_of_ble_eq_true rfl) dX0_carriage_17 (fun H locs hP hD hS => ?_)
    have hP : va_P D kcl (cellsX y c (J.kMostG' (-1))) H := hP
    have hD : va_D (XA c) (cellsX y c (J.kMostG' (-1))) := hD
    refine lv_aload_n hx hb dX0_carriage_20 rfl (lv_at hl 0 rfl) ?_
    refine lv_iconst (v := nI 0) hx hb dX0_carriage_21 (by decide) ?_
    refine lv_iconst (v := nI 0) hx hb dX0_carriage_22 (by decide) ?_
    refine lv_iconst (v := nI 0) hx hb dX0_carriage_23 (by decide) ?_
    rcases (show S.ppl = 0 ∨ S.ppl = 1 ∨ S.ppl = 2 ∨ S.ppl = 3 ∨ S.ppl = 4 ∨ S.ppl = 5 ∨ S.ppl = 6 by omega) with hn | hn | hn | hn | hn | hn | hn
    · have hP : va_P D kcl (cellsX y c (((J.aGiven' J.aGiven).aBest' J.aBest).kMostG' (-1))) H := hP
      have hD : va_D (XA c) (cellsX y c (((J.aGiven' J.aGiven).aBest' J.aBest).kMostG' (-1))) := hD
      obtain ⟨vg, hvg⟩ : ∃ v : Int32, v = -1 := ⟨_, rfl⟩
      rw [← hvg] at hP hD
      have hO1 := XOk.car hO J.aGiven J.aBest vg
      refine h_callv (va_runV (As := [.int (nI 0), .int (nI 0), .int (nI 0)]) (rest := []) ⟨hx, hb, hml, hown, hts⟩ (m_X0_gives0 l D y c (((J.aGiven' J.aGiven).aBest' J.aBest).kMostG' vg) S hI hO1 0 0 0 0 (by omega) (Nat.pow_pos (by omega)) (by omega) (by omega) (car_k.trans (hvg.trans (by decide)))) (cwV 3 hts (lw_V q729 q731 qs25 q54 q732) rfl rfl rfl ⟨rfl, hd_X0_gives⟩ ⟨Nat.le_of_ble_eq_true rfl, Nat.le_of_ble_eq_true rfl⟩) (preVH hC hP hD 0 0 rfl rfl) rfl rfl hl.1 rfl (lv_room (Nat.le_of_ble_eq_true rfl)) dX0_carriage_24 ⟨Nat.le_of_ble_eq_true rfl, Nat.le_of_ble_eq_true rfl⟩) hS (fun J2 H locs hp2 hP hD hS => ?_)
      have hP : va_P D kcl (cellsX y c J2) H := hP
      have hD : va_D (XA c) (cellsX y c J2) := hD
      obtain ⟨G2, B2, g2, v2, e2, hv2, hG2, hR⟩ := hp2
      rw [car_car] at e2
      rw [car_g, car_b] at hR
      subst e2
      rcases hR with ⟨_, e2, hB2⟩ | ⟨q, _, _⟩
      rotate_left
      · exact absurd q (Nat.not_lt_zero _)
      have hm1 := mstN_le S 0 0 0
      have e2 : g2 = mstN S 0 0 0 + 1 := by omega
      have hO3 := XOk.car hO G2 B2 v2
      refine lv_iload_n hx hb dX0_carriage_27 rfl (lv_at hl 1 rfl) ?_
      refine lv_iconst (v := (-1)) hx hb dX0_carriage_28 (by decide) ?_
      refine lv_icmp_ne (tgt := 39) hx hb dX0_carriage_29 (by decide) (fun h3 => ?_) (fun h3 => ?_)
      · exact absurd rfl h3
      refine lv_aload_n hx hb dX0_carriage_32 rfl (lv_at hl 0 rfl) ?_
      refine va_get (D := D) (ci := 0) (v := .int v2) (C := RX0) (T := TX0) (N := 19) hx hb hts in_X0 hown hK hP 0 rfl rfl 13 (by decide) (hts _ q504) (fun _ h9 => h9) rfl dX0_carriage_33 ?_
      refine lv_goto (tgt := 45) hx hb dX0_carriage_36 (by decide) ?_
      exact h_iret (V := fun J' => cellsX y c J') (((J.aGiven' G2).aBest' B2).kMostG' v2) hx hb hr hlocks hC hP hD hS (⟨by rw [ansCar, if_pos rfl, hn, hv2, e2, dn_s], hO3⟩) dX0_carriage_45
    · have hP : va_P D kcl (cellsX y c (((J.aGiven' J.aGiven).aBest' J.aBest).kMostG' (-1))) H := hP
      have hD : va_D (XA c) (cellsX y c (((J.aGiven' J.aGiven).aBest' J.aBest).kMostG' (-1))) := hD
      obtain ⟨vg, hvg⟩ : ∃ v : Int32, v = -1 := ⟨_, rfl⟩
      rw [← hvg] at hP hD
      have hO1 := XOk.car hO J.aGiven J.aBest vg
      refine h_callv (va_runV (As := [.int (nI 0), .int (nI 0), .int (nI 0)]) (rest := []) ⟨hx, hb, hml, hown, hts⟩ (m_X0_gives1 l D y c (((J.aGiven' J.aGiven).aBest' J.aBest).kMostG' vg) S hI hO1 0 0 0 0 (by omega) (Nat.pow_pos (by omega)) (by omega) (by omega) (car_k.trans (hvg.trans (by decide)))) (cwV 3 hts (lw_V q729 q731 qs25 q54 q732) rfl rfl rfl ⟨rfl, hd_X0_gives⟩ ⟨Nat.le_of_ble_eq_true rfl, Nat.le_of_ble_eq_true rfl⟩) (preVH hC hP hD 0 0 rfl rfl) rfl rfl hl.1 rfl (lv_room (Nat.le_of_ble_eq_true rfl)) dX0_carriage_24 ⟨Nat.le_of_ble_eq_true rfl, Nat.le_of_ble_eq_true rfl⟩) hS (fun J2 H locs hp2 hP hD hS => ?_)
      have hP : va_P D kcl (cellsX y c J2) H := hP
      have hD : va_D (XA c) (cellsX y c J2) := hD
      obtain ⟨G2, B2, g2, v2, e2, hv2, hG2, hR⟩ := hp2
      rw [car_car] at e2
      rw [car_g, car_b] at hR
      subst e2
      rcases hR with ⟨_, e2, hB2⟩ | ⟨q, _, _⟩
      rotate_left
      · exact absurd q (Nat.not_lt_zero _)
      have hm1 := mstN_le S 1 0 0
      have e2 : g2 = mstN S 1 0 0 + 1 := by omega
      have hO3 := XOk.car hO G2 B2 v2
      refine lv_iload_n hx hb dX0_carriage_27 rfl (lv_at hl 1 rfl) ?_
      refine lv_iconst (v := (-1)) hx hb dX0_carriage_28 (by decide) ?_
      refine lv_icmp_ne (tgt := 39) hx hb dX0_carriage_29 (by decide) (fun h3 => ?_) (fun h3 => ?_)
      · exact absurd rfl h3
      refine lv_aload_n hx hb dX0_carriage_32 rfl (lv_at hl 0 rfl) ?_
      refine va_get (D := D) (ci := 0) (v := .int v2) (C := RX0) (T := TX0) (N := 19) hx hb hts in_X0 hown hK hP 0 rfl rfl 13 (by decide) (hts _ q504) (fun _ h9 => h9) rfl dX0_carriage_33 ?_
      refine lv_goto (tgt := 45) hx hb dX0_carriage_36 (by decide) ?_
      exact h_iret (V := fun J' => cellsX y c J') (((J.aGiven' G2).aBest' B2).kMostG' v2) hx hb hr hlocks hC hP hD hS (⟨by rw [ansCar, if_pos rfl, hn, hv2, e2, dn_s], hO3⟩) dX0_carriage_45
    · have hP : va_P D kcl (cellsX y c (((J.aGiven' J.aGiven).aBest' J.aBest).kMostG' (-1))) H := hP
      have hD : va_D (XA c) (cellsX y c (((J.aGiven' J.aGiven).aBest' J.aBest).kMostG' (-1))) := hD
      obtain ⟨vg, hvg⟩ : ∃ v : Int32, v = -1 := ⟨_, rfl⟩
      rw [← hvg] at hP hD
      have hO1 := XOk.car hO J.aGiven J.aBest vg
      refine h_callv (va_runV (As := [.int (nI 0), .int (nI 0), .int (nI 0)]) (rest := []) ⟨hx, hb, hml, hown, hts⟩ (m_X0_gives2 l D y c (((J.aGiven' J.aGiven).aBest' J.aBest).kMostG' vg) S hI hO1 0 0 0 0 (by omega) (Nat.pow_pos (by omega)) (by omega) (by omega) (car_k.trans (hvg.trans (by decide)))) (cwV 3 hts (lw_V q729 q731 qs25 q54 q732) rfl rfl rfl ⟨rfl, hd_X0_gives⟩ ⟨Nat.le_of_ble_eq_true rfl, Nat.le_of_ble_eq_true rfl⟩) (preVH hC hP hD 0 0 rfl rfl) rfl rfl hl.1 rfl (lv_room (Nat.le_of_ble_eq_true rfl)) dX0_carriage_24 ⟨Nat.le_of_ble_eq_true rfl, Nat.le_of_ble_eq_true rfl⟩) hS (fun J2 H locs hp2 hP hD hS => ?_)
      have hP : va_P D kcl (cellsX y c J2) H := hP
      have hD : va_D (XA c) (cellsX y c J2) := hD
      obtain ⟨G2, B2, g2, v2, e2, hv2, hG2, hR⟩ := hp2
      rw [car_car] at e2
      rw [car_g, car_b] at hR
      subst e2
      rcases hR with ⟨_, e2, hB2⟩ | ⟨q, _, _⟩
      rotate_left
      · exact absurd q (Nat.not_lt_zero _)
      have hm1 := mstN_le S 2 0 0
      have e2 : g2 = mstN S 2 0 0 + 1 := by omega
      have hO3 := XOk.car hO G2 B2 v2
      refine lv_iload_n hx hb dX0_carriage_27 rfl (lv_at hl 1 rfl) ?_
      refine lv_iconst (v := (-1)) hx hb dX0_carriage_28 (by decide) ?_
      refine lv_icmp_ne (tgt := 39) hx hb dX0_carriage_29 (by decide) (fun h3 => ?_) (fun h3 => ?_)
      · exact absurd rfl h3
      refine lv_aload_n hx hb dX0_carriage_32 rfl (lv_at hl 0 rfl) ?_
      refine va_get (D := D) (ci := 0) (v := .int v2) (C := RX0) (T := TX0) (N := 19) hx hb hts in_X0 hown hK hP 0 rfl rfl 13 (by decide) (hts _ q504) (fun _ h9 => h9) rfl dX0_carriage_33 ?_
      refine lv_goto (tgt := 45) hx hb dX0_carriage_36 (by decide) ?_
      exact h_iret (V := fun J' => cellsX y c J') (((J.aGiven' G2).aBest' B2).kMostG' v2) hx hb hr hlocks hC hP hD hS (⟨by rw [ansCar, if_pos rfl, hn, hv2, e2, dn_s], hO3⟩) dX0_carriage_45
    · have hP : va_P D kcl (cellsX y c (((J.aGiven' J.aGiven).aBest' J.aBest).kMostG' (-1))) H := hP
      have hD : va_D (XA c) (cellsX y c (((J.aGiven' J.aGiven).aBest' J.aBest).kMostG' (-1))) := hD
      obtain ⟨vg, hvg⟩ : ∃ v : Int32, v = -1 := ⟨_, rfl⟩
      rw [← hvg] at hP hD
      have hO1 := XOk.car hO J.aGiven J.aBest vg
      refine h_callv (va_runV (As := [.int (nI 0), .int (nI 0), .int (nI 0)]) (rest := []) ⟨hx, hb, hml, hown, hts⟩ (m_X0_gives3 l D y c (((J.aGiven' J.aGiven).aBest' J.aBest).kMostG' vg) S hI hO1 0 0 0 0 (by omega) (Nat.pow_pos (by omega)) (by omega) (by omega) (car_k.trans (hvg.trans (by decide)))) (cwV 3 hts (lw_V q729 q731 qs25 q54 q732) rfl rfl rfl ⟨rfl, hd_X0_gives⟩ ⟨Nat.le_of_ble_eq_true rfl, Nat.le_of_ble_eq_true rfl⟩) (preVH hC hP hD 0 0 rfl rfl) rfl rfl hl.1 rfl (lv_room (Nat.le_of_ble_eq_true rfl)) dX0_carriage_24 ⟨Nat.le_of_ble_eq_true rfl, Nat.le_of_ble_eq_true rfl⟩) hS (fun J2 H locs hp2 hP hD hS => ?_)
      have hP : va_P D kcl (cellsX y c J2) H := hP
      have hD : va_D (XA c) (cellsX y c J2) := hD
      obtain ⟨G2, B2, g2, v2, e2, hv2, hG2, hR⟩ := hp2
      rw [car_car] at e2
      rw [car_g, car_b] at hR
      subst e2
      rcases hR with ⟨_, e2, hB2⟩ | ⟨q, _, _⟩
      rotate_left
      · exact absurd q (Nat.not_lt_zero _)
      have hm1 := mstN_le S 3 0 0
      have e2 : g2 = mstN S 3 0 0 + 1 := by omega
      have hO3 := XOk.car hO G2 B2 v2
      refine lv_iload_n hx hb dX0_carriage_27 rfl (lv_at hl 1 rfl) ?_
      refine lv_iconst (v := (-1)) hx hb dX0_carriage_28 (by decide) ?_
      refine lv_icmp_ne (tgt := 39) hx hb dX0_carriage_29 (by decide) (fun h3 => ?_) (fun h3 => ?_)
      · exact absurd rfl h3
      refine lv_aload_n hx hb dX0_carriage_32 rfl (lv_at hl 0 rfl) ?_
      refine va_get (D := D) (ci := 0) (v := .int v2) (C := RX0) (T := TX0) (N := 19) hx hb hts in_X0 hown hK hP 0 rfl rfl 13 (by decide) (hts _ q504) (fun _ h9 => h9) rfl dX0_carriage_33 ?_
      refine lv_goto (tgt := 45) hx hb dX0_carriage_36 (by decide) ?_
      exact h_iret (V := fun J' => cellsX y c J') (((J.aGiven' G2).aBest' B2).kMostG' v2) hx hb hr hlocks hC hP hD hS (⟨by rw [ansCar, if_pos rfl, hn, hv2, e2, dn_s], hO3⟩) dX0_carriage_45
    · have hP : va_P D kcl (cellsX y c (((J.aGiven' J.aGiven).aBest' J.aBest).kMostG' (-1))) H := hP
      have hD : va_D (XA c) (cellsX y c (((J.aGiven' J.aGiven).aBest' J.aBest).kMostG' (-1))) := hD
      obtain ⟨vg, hvg⟩ : ∃ v : Int32, v = -1 := ⟨_, rfl⟩
      rw [← hvg] at hP hD
      have hO1 := XOk.car hO J.aGiven J.aBest vg
      refine h_callv (va_runV (As := [.int (nI 0), .int (nI 0), .int (nI 0)]) (rest := []) ⟨hx, hb, hml, hown, hts⟩ (m_X0_gives4 l D y c (((J.aGiven' J.aGiven).aBest' J.aBest).kMostG' vg) S hI hO1 0 0 0 0 (by omega) (Nat.pow_pos (by omega)) (by omega) (by omega) (car_k.trans (hvg.trans (by decide)))) (cwV 3 hts (lw_V q729 q731 qs25 q54 q732) rfl rfl rfl ⟨rfl, hd_X0_gives⟩ ⟨Nat.le_of_ble_eq_true rfl, Nat.le_of_ble_eq_true rfl⟩) (preVH hC hP hD 0 0 rfl rfl) rfl rfl hl.1 rfl (lv_room (Nat.le_of_ble_eq_true rfl)) dX0_carriage_24 ⟨Nat.le_of_ble_eq_true rfl, Nat.le_of_ble_eq_true rfl⟩) hS (fun J2 H locs hp2 hP hD hS => ?_)
      have hP : va_P D kcl (cellsX y c J2) H := hP
      have hD : va_D (XA c) (cellsX y c J2) := hD
      obtain ⟨G2, B2, g2, v2, e2, hv2, hG2, hR⟩ := hp2
      rw [car_car] at e2
      rw [car_g, car_b] at hR
      subst e2
      rcases hR with ⟨_, e2, hB2⟩ | ⟨q, _, _⟩
      rotate_left
      · exact absurd q (Nat.not_lt_zero _)
      have hm1 := mstN_le S 4 0 0
      have e2 : g2 = mstN S 4 0 0 + 1 := by omega
      have hO3 := XOk.car hO G2 B2 v2
      refine lv_iload_n hx hb dX0_carriage_27 rfl (lv_at hl 1 rfl) ?_
      refine lv_iconst (v := (-1)) hx hb dX0_carriage_28 (by decide) ?_
      refine lv_icmp_ne (tgt := 39) hx hb dX0_carriage_29 (by decide) (fun h3 => ?_) (fun h3 => ?_)
      · exact absurd rfl h3
      refine lv_aload_n hx hb dX0_carriage_32 rfl (lv_at hl 0 rfl) ?_
      refine va_get (D := D) (ci := 0) (v := .int v2) (C := RX0) (T := TX0) (N := 19) hx hb hts in_X0 hown hK hP 0 rfl rfl 13 (by decide) (hts _ q504) (fun _ h9 => h9) rfl dX0_carriage_33 ?_
      refine lv_goto (tgt := 45) hx hb dX0_carriage_36 (by decide) ?_
      exact h_iret (V := fun J' => cellsX y c J') (((J.aGiven' G2).aBest' B2).kMostG' v2) hx hb hr hlocks hC hP hD hS (⟨by rw [ansCar, if_pos rfl, hn, hv2, e2, dn_s], hO3⟩) dX0_carriage_45
    · have hP : va_P D kcl (cellsX y c (((J.aGiven' J.aGiven).aBest' J.aBest).kMostG' (-1))) H := hP
      have hD : va_D (XA c) (cellsX y c (((J.aGiven' J.aGiven).aBest' J.aBest).kMostG' (-1))) := hD
      obtain ⟨vg, hvg⟩ : ∃ v : Int32, v = -1 := ⟨_, rfl⟩
      rw [← hvg] at hP hD
      have hO1 := XOk.car hO J.aGiven J.aBest vg
      refine h_callv (va_runV (As := [.int (nI 0), .int (nI 0), .int (nI 0)]) (rest := []) ⟨hx, hb, hml, hown, hts⟩ (m_X0_gives5 l D y c (((J.aGiven' J.aGiven).aBest' J.aBest).kMostG' vg) S hI hO1 0 0 0 0 (by omega) (Nat.pow_pos (by omega)) (by omega) (by omega) (car_k.trans (hvg.trans (by decide)))) (cwV 3 hts (lw_V q729 q731 qs25 q54 q732) rfl rfl rfl ⟨rfl, hd_X0_gives⟩ ⟨Nat.le_of_ble_eq_true rfl, Nat.le_of_ble_eq_true rfl⟩) (preVH hC hP hD 0 0 rfl rfl) rfl rfl hl.1 rfl (lv_room (Nat.le_of_ble_eq_true rfl)) dX0_carriage_24 ⟨Nat.le_of_ble_eq_true rfl, Nat.le_of_ble_eq_true rfl⟩) hS (fun J2 H locs hp2 hP hD hS => ?_)
      have hP : va_P D kcl (cellsX y c J2) H := hP
      have hD : va_D (XA c) (cellsX y c J2) := hD
      obtain ⟨G2, B2, g2, v2, e2, hv2, hG2, hR⟩ := hp2
      rw [car_car] at e2
      rw [car_g, car_b] at hR
      subst e2
      rcases hR with ⟨_, e2, hB2⟩ | ⟨q, _, _⟩
      rotate_left
      · exact absurd q (Nat.not_lt_zero _)
      have hm1 := mstN_le S 5 0 0
      have e2 : g2 = mstN S 5 0 0 + 1 := by omega
      have hO3 := XOk.car hO G2 B2 v2
      refine lv_iload_n hx hb dX0_carriage_27 rfl (lv_at hl 1 rfl) ?_
      refine lv_iconst (v := (-1)) hx hb dX0_carriage_28 (by decide) ?_
      refine lv_icmp_ne (tgt := 39) hx hb dX0_carriage_29 (by decide) (fun h3 => ?_) (fun h3 => ?_)
      · exact absurd rfl h3
      refine lv_aload_n hx hb dX0_carriage_32 rfl (lv_at hl 0 rfl) ?_
      refine va_get (D := D) (ci := 0) (v := .int v2) (C := RX0) (T := TX0) (N := 19) hx hb hts in_X0 hown hK hP 0 rfl rfl 13 (by decide) (hts _ q504) (fun _ h9 => h9) rfl dX0_carriage_33 ?_
      refine lv_goto (tgt := 45) hx hb dX0_carriage_36 (by decide) ?_
      exact h_iret (V := fun J' => cellsX y c J') (((J.aGiven' G2).aBest' B2).kMostG' v2) hx hb hr hlocks hC hP hD hS (⟨by rw [ansCar, if_pos rfl, hn, hv2, e2, dn_s], hO3⟩) dX0_carriage_45
    · have hP : va_P D kcl (cellsX y c (((J.aGiven' J.aGiven).aBest' J.aBest).kMostG' (-1))) H := hP
      have hD : va_D (XA c) (cellsX y c (((J.aGiven' J.aGiven).aBest' J.aBest).kMostG' (-1))) := hD
      obtain ⟨vg, hvg⟩ : ∃ v : Int32, v = -1 := ⟨_, rfl⟩
      rw [← hvg] at hP hD
      have hO1 := XOk.car hO J.aGiven J.aBest vg
      refine h_callv (va_runV (As := [.int (nI 0), .int (nI 0), .int (nI 0)]) (rest := []) ⟨hx, hb, hml, hown, hts⟩ (m_X0_gives6 l D y c (((J.aGiven' J.aGiven).aBest' J.aBest).kMostG' vg) S hI hO1 0 0 0 0 (by omega) (Nat.pow_pos (by omega)) (by omega) (by omega) (car_k.trans (hvg.trans (by decide)))) (cwV 3 hts (lw_V q729 q731 qs25 q54 q732) rfl rfl rfl ⟨rfl, hd_X0_gives⟩ ⟨Nat.le_of_ble_eq_true rfl, Nat.le_of_ble_eq_true rfl⟩) (preVH hC hP hD 0 0 rfl rfl) rfl rfl hl.1 rfl (lv_room (Nat.le_of_ble_eq_true rfl)) dX0_carriage_24 ⟨Nat.le_of_ble_eq_true rfl, Nat.le_of_ble_eq_true rfl⟩) hS (fun J2 H locs hp2 hP hD hS => ?_)
      have hP : va_P D kcl (cellsX y c J2) H := hP
      have hD : va_D (XA c) (cellsX y c J2) := hD
      obtain ⟨G2, B2, g2, v2, e2, hv2, hG2, hR⟩ := hp2
      rw [car_car] at e2
      rw [car_g, car_b] at hR
      subst e2
      rcases hR with ⟨_, e2, hB2⟩ | ⟨q, _, _⟩
      rotate_left
      · exact absurd q (Nat.not_lt_zero _)
      have hm1 := mstN_le S 6 0 0
      have e2 : g2 = mstN S 6 0 0 + 1 := by omega
      have hO3 := XOk.car hO G2 B2 v2
      refine lv_iload_n hx hb dX0_carriage_27 rfl (lv_at hl 1 rfl) ?_
      refine lv_iconst (v := (-1)) hx hb dX0_carriage_28 (by decide) ?_
      refine lv_icmp_ne (tgt := 39) hx hb dX0_carriage_29 (by decide) (fun h3 => ?_) (fun h3 => ?_)
      · exact absurd rfl h3
      refine lv_aload_n hx hb dX0_carriage_32 rfl (lv_at hl 0 rfl) ?_
      refine va_get (D := D) (ci := 0) (v := .int v2) (C := RX0) (T := TX0) (N := 19) hx hb hts in_X0 hown hK hP 0 rfl rfl 13 (by decide) (hts _ q504) (fun _ h9 => h9) rfl dX0_carriage_33 ?_
      refine lv_goto (tgt := 45) hx hb dX0_carriage_36 (by decide) ?_
      exact h_iret (V := fun J' => cellsX y c J') (((J.aGiven' G2).aBest' B2).kMostG' v2) hx hb hr hlocks hC hP hD hS (⟨by rw [ansCar, if_pos rfl, hn, hv2, e2, dn_s], hO3⟩) dX0_carriage_45
  refine lv_aload_n hx hb dX0_carriage_5 rfl (lv_at hl 0 rfl) ?_
  refine lv_iload_n hx hb dX0_carriage_6 rfl (lv_at hl 1 rfl) ?_
  refine va_callR (va_runV (As := [.int v]) (rest := []) ⟨hx, hb, hml, hown, hts⟩ (m_X0_isCitizen l D y c J S hI hO v) (cwV 1 hts (lw_V q576 q578 qs11 q54 q579) rfl rfl rfl ⟨rfl, hd_X0_isCitizen⟩ ⟨Nat.le_of_ble_eq_true rfl, Nat.le_of_ble_eq_true rfl⟩) (preVR hC hP 0 0 rfl rfl) rfl rfl hl.1 rfl (lv_room (Nat.le_of_ble_eq_true rfl)) dX0_carriage_7 ⟨Nat.le_of_ble_eq_true rfl, Nat.le_of_ble_eq_true rfl⟩) ?_
  refine z_if_ne (tgt := 15) hx hb dX0_carriage_10 (by decide) (fun h2 => ?_) (fun h2 => ?_)
  rotate_left
  · refine lv_iconst (v := (-1)) hx hb dX0_carriage_13 (by decide) ?_
    exact h_iret (V := fun J' => cellsX y c J') J hx hb hr hlocks hC hP hD hS (⟨by rw [ansCar, if_neg h1, if_neg (bnf h2)], hO⟩) dX0_carriage_14
  have gj := h2
  obtain ⟨j, hj, rfl⟩ := ixI_of h2
  refine lv_aload_n hx hb dX0_carriage_15 rfl (lv_at hl 0 rfl) ?_
  refine lv_iconst (v := (-1)) hx hb dX0_carriage_16 (by decide) ?_
  refine va_put (D := D) (ci := 0) (v := .int (-1)) (ty := .int) (C := RX0) (T := TX0) (N := 19) hx hb hts in_X0 tyX0 tyX0_ok nmX0 hown hK hP hD hS 0 rfl rfl 13 (by decide) (hts _ q504) (fun _ h9 => h9) rfl (by decide +kernel) rfl rfl (Nat.le_of_ble_eq_true rfl) dX0_carriage_17 (fun H locs hP hD hS => ?_)
  have hP : va_P D kcl (cellsX y c (J.kMostG' (-1))) H := hP
  have hD : va_D (XA c) (cellsX y c (J.kMostG' (-1))) := hD
  refine lv_aload_n hx hb dX0_carriage_20 rfl (lv_at hl 0 rfl) ?_
  refine lv_iconst (v := nI 0) hx hb dX0_carriage_21 (by decide) ?_
  refine lv_iconst (v := nI 0) hx hb dX0_carriage_22 (by decide) ?_
  refine lv_iconst (v := nI 0) hx hb dX0_carriage_23 (by decide) ?_
  rcases (show S.ppl = 0 ∨ S.ppl = 1 ∨ S.ppl = 2 ∨ S.ppl = 3 ∨ S.ppl = 4 ∨ S.ppl = 5 ∨ S.ppl = 6 by omega) with hn | hn | hn | hn | hn | hn | hn
  · have hP : va_P D kcl (cellsX y c (((J.aGiven' J.aGiven).aBest' J.aBest).kMostG' (-1))) H := hP
    have hD : va_D (XA c) (cellsX y c (((J.aGiven' J.aGiven).aBest' J.aBest).kMostG' (-1))) := hD
    obtain ⟨vg, hvg⟩ : ∃ v : Int32, v = -1 := ⟨_, rfl⟩
    rw [← hvg] at hP hD
    have hO1 := XOk.car hO J.aGiven J.aBest vg
    refine h_callv (va_runV (As := [.int (nI 0), .int (nI 0), .int (nI 0)]) (rest := []) ⟨hx, hb, hml, hown, hts⟩ (m_X0_gives0 l D y c (((J.aGiven' J.aGiven).aBest' J.aBest).kMostG' vg) S hI hO1 0 0 0 0 (by omega) (Nat.pow_pos (by omega)) (by omega) (by omega) (car_k.trans (hvg.trans (by decide)))) (cwV 3 hts (lw_V q729 q731 qs25 q54 q732) rfl rfl rfl ⟨rfl, hd_X0_gives⟩ ⟨Nat.le_of_ble_eq_true rfl, Nat.le_of_ble_eq_true rfl⟩) (preVH hC hP hD 0 0 rfl rfl) rfl rfl hl.1 rfl (lv_room (Nat.le_of_ble_eq_true rfl)) dX0_carriage_24 ⟨Nat.le_of_ble_eq_true rfl, Nat.le_of_ble_eq_true rfl⟩) hS (fun J2 H locs hp2 hP hD hS => ?_)
    have hP : va_P D kcl (cellsX y c J2) H := hP
    have hD : va_D (XA c) (cellsX y c J2) := hD
    obtain ⟨G2, B2, g2, v2, e2, hv2, hG2, hR⟩ := hp2
    rw [car_car] at e2
    rw [car_g, car_b] at hR
    subst e2
    rcases hR with ⟨_, e2, hB2⟩ | ⟨q, _, _⟩
    rotate_left
    · exact absurd q (Nat.not_lt_zero _)
    have hm1 := mstN_le S 0 0 0
    have e2 : g2 = mstN S 0 0 0 + 1 := by omega
    have hO3 := XOk.car hO G2 B2 v2
    refine lv_iload_n hx hb dX0_carriage_27 rfl (lv_at hl 1 rfl) ?_
    refine lv_iconst (v := (-1)) hx hb dX0_carriage_28 (by decide) ?_
    refine lv_icmp_ne (tgt := 39) hx hb dX0_carriage_29 (by decide) (fun h3 => ?_) (fun h3 => ?_)
    rotate_left
    · exact absurd h3 h1
    refine lv_aload_n hx hb dX0_carriage_39 rfl (lv_at hl 0 rfl) ?_
    refine va_get (D := D) (ci := 0) (v := .ref (c 15)) (C := RX0) (T := TX0) (N := 19) hx hb hts in_X0 hown hK hP 0 rfl rfl 12 (by decide) (hts _ q503) (fun _ h9 => h9) rfl dX0_carriage_40 ?_
    refine lv_iload_n hx hb dX0_carriage_43 rfl (lv_at hl 1 rfl) ?_
    refine n_iald (v := B2 j) hx hb hK hP 15 0 rfl rfl (j := j) (by omega) (by decide) (rfl) dX0_carriage_44 ?_
    exact h_iret (V := fun J' => cellsX y c J') (((J.aGiven' G2).aBest' B2).kMostG' v2) hx hb hr hlocks hC hP hD hS (⟨by rw [ansCar, if_neg h1, if_pos gj, idx_nI (by omega), hn]; exact hB2.2 j (Nat.zero_le _) (by omega), hO3⟩) dX0_carriage_45
  · have hP : va_P D kcl (cellsX y c (((J.aGiven' J.aGiven).aBest' J.aBest).kMostG' (-1))) H := hP
    have hD : va_D (XA c) (cellsX y c (((J.aGiven' J.aGiven).aBest' J.aBest).kMostG' (-1))) := hD
    obtain ⟨vg, hvg⟩ : ∃ v : Int32, v = -1 := ⟨_, rfl⟩
    rw [← hvg] at hP hD
    have hO1 := XOk.car hO J.aGiven J.aBest vg
    refine h_callv (va_runV (As := [.int (nI 0), .int (nI 0), .int (nI 0)]) (rest := []) ⟨hx, hb, hml, hown, hts⟩ (m_X0_gives1 l D y c (((J.aGiven' J.aGiven).aBest' J.aBest).kMostG' vg) S hI hO1 0 0 0 0 (by omega) (Nat.pow_pos (by omega)) (by omega) (by omega) (car_k.trans (hvg.trans (by decide)))) (cwV 3 hts (lw_V q729 q731 qs25 q54 q732) rfl rfl rfl ⟨rfl, hd_X0_gives⟩ ⟨Nat.le_of_ble_eq_true rfl, Nat.le_of_ble_eq_true rfl⟩) (preVH hC hP hD 0 0 rfl rfl) rfl rfl hl.1 rfl (lv_room (Nat.le_of_ble_eq_true rfl)) dX0_carriage_24 ⟨Nat.le_of_ble_eq_true rfl, Nat.le_of_ble_eq_true rfl⟩) hS (fun J2 H locs hp2 hP hD hS => ?_)
    have hP : va_P D kcl (cellsX y c J2) H := hP
    have hD : va_D (XA c) (cellsX y c J2) := hD
    obtain ⟨G2, B2, g2, v2, e2, hv2, hG2, hR⟩ := hp2
    rw [car_car] at e2
    rw [car_g, car_b] at hR
    subst e2
    rcases hR with ⟨_, e2, hB2⟩ | ⟨q, _, _⟩
    rotate_left
    · exact absurd q (Nat.not_lt_zero _)
    have hm1 := mstN_le S 1 0 0
    have e2 : g2 = mstN S 1 0 0 + 1 := by omega
    have hO3 := XOk.car hO G2 B2 v2
    refine lv_iload_n hx hb dX0_carriage_27 rfl (lv_at hl 1 rfl) ?_
    refine lv_iconst (v := (-1)) hx hb dX0_carriage_28 (by decide) ?_
    refine lv_icmp_ne (tgt := 39) hx hb dX0_carriage_29 (by decide) (fun h3 => ?_) (fun h3 => ?_)
    rotate_left
    · exact absurd h3 h1
    refine lv_aload_n hx hb dX0_carriage_39 rfl (lv_at hl 0 rfl) ?_
    refine va_get (D := D) (ci := 0) (v := .ref (c 15)) (C := RX0) (T := TX0) (N := 19) hx hb hts in_X0 hown hK hP 0 rfl rfl 12 (by decide) (hts _ q503) (fun _ h9 => h9) rfl dX0_carriage_40 ?_
    refine lv_iload_n hx hb dX0_carriage_43 rfl (lv_at hl 1 rfl) ?_
    refine n_iald (v := B2 j) hx hb hK hP 15 0 rfl rfl (j := j) (by omega) (by decide) (rfl) dX0_carriage_44 ?_
    exact h_iret (V := fun J' => cellsX y c J') (((J.aGiven' G2).aBest' B2).kMostG' v2) hx hb hr hlocks hC hP hD hS (⟨by rw [ansCar, if_neg h1, if_pos gj, idx_nI (by omega), hn]; exact hB2.2 j (Nat.zero_le _) (by omega), hO3⟩) dX0_carriage_45
  · have hP : va_P D kcl (cellsX y c (((J.aGiven' J.aGiven).aBest' J.aBest).kMostG' (-1))) H := hP
    have hD : va_D (XA c) (cellsX y c (((J.aGiven' J.aGiven).aBest' J.aBest).kMostG' (-1))) := hD
    obtain ⟨vg, hvg⟩ : ∃ v : Int32, v = -1 := ⟨_, rfl⟩
    rw [← hvg] at hP hD
    have hO1 := XOk.car hO J.aGiven J.aBest vg
    refine h_callv (va_runV (As := [.int (nI 0), .int (nI 0), .int (nI 0)]) (rest := []) ⟨hx, hb, hml, hown, hts⟩ (m_X0_gives2 l D y c (((J.aGiven' J.aGiven).aBest' J.aBest).kMostG' vg) S hI hO1 0 0 0 0 (by omega) (Nat.pow_pos (by omega)) (by omega) (by omega) (car_k.trans (hvg.trans (by decide)))) (cwV 3 hts (lw_V q729 q731 qs25 q54 q732) rfl rfl rfl ⟨rfl, hd_X0_gives⟩ ⟨Nat.le_of_ble_eq_true rfl, Nat.le_of_ble_eq_true rfl⟩) (preVH hC hP hD 0 0 rfl rfl) rfl rfl hl.1 rfl (lv_room (Nat.le_of_ble_eq_true rfl)) dX0_carriage_24 ⟨Nat.le_of_ble_eq_true rfl, Nat.le_of_ble_eq_true rfl⟩) hS (fun J2 H locs hp2 hP hD hS => ?_)
    have hP : va_P D kcl (cellsX y c J2) H := hP
    have hD : va_D (XA c) (cellsX y c J2) := hD
    obtain ⟨G2, B2, g2, v2, e2, hv2, hG2, hR⟩ := hp2
    rw [car_car] at e2
    rw [car_g, car_b] at hR
    subst e2
    rcases hR with ⟨_, e2, hB2⟩ | ⟨q, _, _⟩
    rotate_left
    · exact absurd q (Nat.not_lt_zero _)
    have hm1 := mstN_le S 2 0 0
    have e2 : g2 = mstN S 2 0 0 + 1 := by omega
    have hO3 := XOk.car hO G2 B2 v2
    refine lv_iload_n hx hb dX0_carriage_27 rfl (lv_at hl 1 rfl) ?_
    refine lv_iconst (v := (-1)) hx hb dX0_carriage_28 (by decide) ?_
    refine lv_icmp_ne (tgt := 39) hx hb dX0_carriage_29 (by decide) (fun h3 => ?_) (fun h3 => ?_)
    rotate_left
    · exact absurd h3 h1
    refine lv_aload_n hx hb dX0_carriage_39 rfl (lv_at hl 0 rfl) ?_
    refine va_get (D := D) (ci := 0) (v := .ref (c 15)) (C := RX0) (T := TX0) (N := 19) hx hb hts in_X0 hown hK hP 0 rfl rfl 12 (by decide) (hts _ q503) (fun _ h9 => h9) rfl dX0_carriage_40 ?_
    refine lv_iload_n hx hb dX0_carriage_43 rfl (lv_at hl 1 rfl) ?_
    refine n_iald (v := B2 j) hx hb hK hP 15 0 rfl rfl (j := j) (by omega) (by decide) (rfl) dX0_carriage_44 ?_
    exact h_iret (V := fun J' => cellsX y c J') (((J.aGiven' G2).aBest' B2).kMostG' v2) hx hb hr hlocks hC hP hD hS (⟨by rw [ansCar, if_neg h1, if_pos gj, idx_nI (by omega), hn]; exact hB2.2 j (Nat.zero_le _) (by omega), hO3⟩) dX0_carriage_45
  · have hP : va_P D kcl (cellsX y c (((J.aGiven' J.aGiven).aBest' J.aBest).kMostG' (-1))) H := hP
    have hD : va_D (XA c) (cellsX y c (((J.aGiven' J.aGiven).aBest' J.aBest).kMostG' (-1))) := hD
    obtain ⟨vg, hvg⟩ : ∃ v : Int32, v = -1 := ⟨_, rfl⟩
    rw [← hvg] at hP hD
    have hO1 := XOk.car hO J.aGiven J.aBest vg
    refine h_callv (va_runV (As := [.int (nI 0), .int (nI 0), .int (nI 0)]) (rest := []) ⟨hx, hb, hml, hown, hts⟩ (m_X0_gives3 l D y c (((J.aGiven' J.aGiven).aBest' J.aBest).kMostG' vg) S hI hO1 0 0 0 0 (by omega) (Nat.pow_pos (by omega)) (by omega) (by omega) (car_k.trans (hvg.trans (by decide)))) (cwV 3 hts (lw_V q729 q731 qs25 q54 q732) rfl rfl rfl ⟨rfl, hd_X0_gives⟩ ⟨Nat.le_of_ble_eq_true rfl, Nat.le_of_ble_eq_true rfl⟩) (preVH hC hP hD 0 0 rfl rfl) rfl rfl hl.1 rfl (lv_room (Nat.le_of_ble_eq_true rfl)) dX0_carriage_24 ⟨Nat.le_of_ble_eq_true rfl, Nat.le_of_ble_eq_true rfl⟩) hS (fun J2 H locs hp2 hP hD hS => ?_)
    have hP : va_P D kcl (cellsX y c J2) H := hP
    have hD : va_D (XA c) (cellsX y c J2) := hD
    obtain ⟨G2, B2, g2, v2, e2, hv2, hG2, hR⟩ := hp2
    rw [car_car] at e2
    rw [car_g, car_b] at hR
    subst e2
    rcases hR with ⟨_, e2, hB2⟩ | ⟨q, _, _⟩
    rotate_left
    · exact absurd q (Nat.not_lt_zero _)
    have hm1 := mstN_le S 3 0 0
    have e2 : g2 = mstN S 3 0 0 + 1 := by omega
    have hO3 := XOk.car hO G2 B2 v2
    refine lv_iload_n hx hb dX0_carriage_27 rfl (lv_at hl 1 rfl) ?_
    refine lv_iconst (v := (-1)) hx hb dX0_carriage_28 (by decide) ?_
    refine lv_icmp_ne (tgt := 39) hx hb dX0_carriage_29 (by decide) (fun h3 => ?_) (fun h3 => ?_)
    rotate_left
    · exact absurd h3 h1
    refine lv_aload_n hx hb dX0_carriage_39 rfl (lv_at hl 0 rfl) ?_
    refine va_get (D := D) (ci := 0) (v := .ref (c 15)) (C := RX0) (T := TX0) (N := 19) hx hb hts in_X0 hown hK hP 0 rfl rfl 12 (by decide) (hts _ q503) (fun _ h9 => h9) rfl dX0_carriage_40 ?_
    refine lv_iload_n hx hb dX0_carriage_43 rfl (lv_at hl 1 rfl) ?_
    refine n_iald (v := B2 j) hx hb hK hP 15 0 rfl rfl (j := j) (by omega) (by decide) (rfl) dX0_carriage_44 ?_
    exact h_iret (V := fun J' => cellsX y c J') (((J.aGiven' G2).aBest' B2).kMostG' v2) hx hb hr hlocks hC hP hD hS (⟨by rw [ansCar, if_neg h1, if_pos gj, idx_nI (by omega), hn]; exact hB2.2 j (Nat.zero_le _) (by omega), hO3⟩) dX0_carriage_45
  · have hP : va_P D kcl (cellsX y c (((J.aGiven' J.aGiven).aBest' J.aBest).kMostG' (-1))) H := hP
    have hD : va_D (XA c) (cellsX y c (((J.aGiven' J.aGiven).aBest' J.aBest).kMostG' (-1))) := hD
    obtain ⟨vg, hvg⟩ : ∃ v : Int32, v = -1 := ⟨_, rfl⟩
    rw [← hvg] at hP hD
    have hO1 := XOk.car hO J.aGiven J.aBest vg
    refine h_callv (va_runV (As := [.int (nI 0), .int (nI 0), .int (nI 0)]) (rest := []) ⟨hx, hb, hml, hown, hts⟩ (m_X0_gives4 l D y c (((J.aGiven' J.aGiven).aBest' J.aBest).kMostG' vg) S hI hO1 0 0 0 0 (by omega) (Nat.pow_pos (by omega)) (by omega) (by omega) (car_k.trans (hvg.trans (by decide)))) (cwV 3 hts (lw_V q729 q731 qs25 q54 q732) rfl rfl rfl ⟨rfl, hd_X0_gives⟩ ⟨Nat.le_of_ble_eq_true rfl, Nat.le_of_ble_eq_true rfl⟩) (preVH hC hP hD 0 0 rfl rfl) rfl rfl hl.1 rfl (lv_room (Nat.le_of_ble_eq_true rfl)) dX0_carriage_24 ⟨Nat.le_of_ble_eq_true rfl, Nat.le_of_ble_eq_true rfl⟩) hS (fun J2 H locs hp2 hP hD hS => ?_)
    have hP : va_P D kcl (cellsX y c J2) H := hP
    have hD : va_D (XA c) (cellsX y c J2) := hD
    obtain ⟨G2, B2, g2, v2, e2, hv2, hG2, hR⟩ := hp2
    rw [car_car] at e2
    rw [car_g, car_b] at hR
    subst e2
    rcases hR with ⟨_, e2, hB2⟩ | ⟨q, _, _⟩
    rotate_left
    · exact absurd q (Nat.not_lt_zero _)
    have hm1 := mstN_le S 4 0 0
    have e2 : g2 = mstN S 4 0 0 + 1 := by omega
    have hO3 := XOk.car hO G2 B2 v2
    refine lv_iload_n hx hb dX0_carriage_27 rfl (lv_at hl 1 rfl) ?_
    refine lv_iconst (v := (-1)) hx hb dX0_carriage_28 (by decide) ?_
    refine lv_icmp_ne (tgt := 39) hx hb dX0_carriage_29 (by decide) (fun h3 => ?_) (fun h3 => ?_)
    rotate_left
    · exact absurd h3 h1
    refine lv_aload_n hx hb dX0_carriage_39 rfl (lv_at hl 0 rfl) ?_
    refine va_get (D := D) (ci := 0) (v := .ref (c 15)) (C := RX0) (T := TX0) (N := 19) hx hb hts in_X0 hown hK hP 0 rfl rfl 12 (by decide) (hts _ q503) (fun _ h9 => h9) rfl dX0_carriage_40 ?_
    refine lv_iload_n hx hb dX0_carriage_43 rfl (lv_at hl 1 rfl) ?_
    refine n_iald (v := B2 j) hx hb hK hP 15 0 rfl rfl (j := j) (by omega) (by decide) (rfl) dX0_carriage_44 ?_
    exact h_iret (V := fun J' => cellsX y c J') (((J.aGiven' G2).aBest' B2).kMostG' v2) hx hb hr hlocks hC hP hD hS (⟨by rw [ansCar, if_neg h1, if_pos gj, idx_nI (by omega), hn]; exact hB2.2 j (Nat.zero_le _) (by omega), hO3⟩) dX0_carriage_45
  · have hP : va_P D kcl (cellsX y c (((J.aGiven' J.aGiven).aBest' J.aBest).kMostG' (-1))) H := hP
    have hD : va_D (XA c) (cellsX y c (((J.aGiven' J.aGiven).aBest' J.aBest).kMostG' (-1))) := hD
    obtain ⟨vg, hvg⟩ : ∃ v : Int32, v = -1 := ⟨_, rfl⟩
    rw [← hvg] at hP hD
    have hO1 := XOk.car hO J.aGiven J.aBest vg
    refine h_callv (va_runV (As := [.int (nI 0), .int (nI 0), .int (nI 0)]) (rest := []) ⟨hx, hb, hml, hown, hts⟩ (m_X0_gives5 l D y c (((J.aGiven' J.aGiven).aBest' J.aBest).kMostG' vg) S hI hO1 0 0 0 0 (by omega) (Nat.pow_pos (by omega)) (by omega) (by omega) (car_k.trans (hvg.trans (by decide)))) (cwV 3 hts (lw_V q729 q731 qs25 q54 q732) rfl rfl rfl ⟨rfl, hd_X0_gives⟩ ⟨Nat.le_of_ble_eq_true rfl, Nat.le_of_ble_eq_true rfl⟩) (preVH hC hP hD 0 0 rfl rfl) rfl rfl hl.1 rfl (lv_room (Nat.le_of_ble_eq_true rfl)) dX0_carriage_24 ⟨Nat.le_of_ble_eq_true rfl, Nat.le_of_ble_eq_true rfl⟩) hS (fun J2 H locs hp2 hP hD hS => ?_)
    have hP : va_P D kcl (cellsX y c J2) H := hP
    have hD : va_D (XA c) (cellsX y c J2) := hD
    obtain ⟨G2, B2, g2, v2, e2, hv2, hG2, hR⟩ := hp2
    rw [car_car] at e2
    rw [car_g, car_b] at hR
    subst e2
    rcases hR with ⟨_, e2, hB2⟩ | ⟨q, _, _⟩
    rotate_left
    · exact absurd q (Nat.not_lt_zero _)
    have hm1 := mstN_le S 5 0 0
    have e2 : g2 = mstN S 5 0 0 + 1 := by omega
    have hO3 := XOk.car hO G2 B2 v2
    refine lv_iload_n hx hb dX0_carriage_27 rfl (lv_at hl 1 rfl) ?_
    refine lv_iconst (v := (-1)) hx hb dX0_carriage_28 (by decide) ?_
    refine lv_icmp_ne (tgt := 39) hx hb dX0_carriage_29 (by decide) (fun h3 => ?_) (fun h3 => ?_)
    rotate_left
    · exact absurd h3 h1
    refine lv_aload_n hx hb dX0_carriage_39 rfl (lv_at hl 0 rfl) ?_
    refine va_get (D := D) (ci := 0) (v := .ref (c 15)) (C := RX0) (T := TX0) (N := 19) hx hb hts in_X0 hown hK hP 0 rfl rfl 12 (by decide) (hts _ q503) (fun _ h9 => h9) rfl dX0_carriage_40 ?_
    refine lv_iload_n hx hb dX0_carriage_43 rfl (lv_at hl 1 rfl) ?_
    refine n_iald (v := B2 j) hx hb hK hP 15 0 rfl rfl (j := j) (by omega) (by decide) (rfl) dX0_carriage_44 ?_
    exact h_iret (V := fun J' => cellsX y c J') (((J.aGiven' G2).aBest' B2).kMostG' v2) hx hb hr hlocks hC hP hD hS (⟨by rw [ansCar, if_neg h1, if_pos gj, idx_nI (by omega), hn]; exact hB2.2 j (Nat.zero_le _) (by omega), hO3⟩) dX0_carriage_45
  · have hP : va_P D kcl (cellsX y c (((J.aGiven' J.aGiven).aBest' J.aBest).kMostG' (-1))) H := hP
    have hD : va_D (XA c) (cellsX y c (((J.aGiven' J.aGiven).aBest' J.aBest).kMostG' (-1))) := hD
    obtain ⟨vg, hvg⟩ : ∃ v : Int32, v = -1 := ⟨_, rfl⟩
    rw [← hvg] at hP hD
    have hO1 := XOk.car hO J.aGiven J.aBest vg
    refine h_callv (va_runV (As := [.int (nI 0), .int (nI 0), .int (nI 0)]) (rest := []) ⟨hx, hb, hml, hown, hts⟩ (m_X0_gives6 l D y c (((J.aGiven' J.aGiven).aBest' J.aBest).kMostG' vg) S hI hO1 0 0 0 0 (by omega) (Nat.pow_pos (by omega)) (by omega) (by omega) (car_k.trans (hvg.trans (by decide)))) (cwV 3 hts (lw_V q729 q731 qs25 q54 q732) rfl rfl rfl ⟨rfl, hd_X0_gives⟩ ⟨Nat.le_of_ble_eq_true rfl, Nat.le_of_ble_eq_true rfl⟩) (preVH hC hP hD 0 0 rfl rfl) rfl rfl hl.1 rfl (lv_room (Nat.le_of_ble_eq_true rfl)) dX0_carriage_24 ⟨Nat.le_of_ble_eq_true rfl, Nat.le_of_ble_eq_true rfl⟩) hS (fun J2 H locs hp2 hP hD hS => ?_)
    have hP : va_P D kcl (cellsX y c J2) H := hP
    have hD : va_D (XA c) (cellsX y c J2) := hD
    obtain ⟨G2, B2, g2, v2, e2, hv2, hG2, hR⟩ := hp2
    rw [car_car] at e2
    rw [car_g, car_b] at hR
    subst e2
    rcases hR with ⟨_, e2, hB2⟩ | ⟨q, _, _⟩
    rotate_left
    · exact absurd q (Nat.not_lt_zero _)
    have hm1 := mstN_le S 6 0 0
    have e2 : g2 = mstN S 6 0 0 + 1 := by omega
    have hO3 := XOk.car hO G2 B2 v2
    refine lv_iload_n hx hb dX0_carriage_27 rfl (lv_at hl 1 rfl) ?_
    refine lv_iconst (v := (-1)) hx hb dX0_carriage_28 (by decide) ?_
    refine lv_icmp_ne (tgt := 39) hx hb dX0_carriage_29 (by decide) (fun h3 => ?_) (fun h3 => ?_)
    rotate_left
    · exact absurd h3 h1
    refine lv_aload_n hx hb dX0_carriage_39 rfl (lv_at hl 0 rfl) ?_
    refine va_get (D := D) (ci := 0) (v := .ref (c 15)) (C := RX0) (T := TX0) (N := 19) hx hb hts in_X0 hown hK hP 0 rfl rfl 12 (by decide) (hts _ q503) (fun _ h9 => h9) rfl dX0_carriage_40 ?_
    refine lv_iload_n hx hb dX0_carriage_43 rfl (lv_at hl 1 rfl) ?_
    refine n_iald (v := B2 j) hx hb hK hP 15 0 rfl rfl (j := j) (by omega) (by decide) (rfl) dX0_carriage_44 ?_
    exact h_iret (V := fun J' => cellsX y c J') (((J.aGiven' G2).aBest' B2).kMostG' v2) hx hb hr hlocks hC hP hD hS (⟨by rw [ansCar, if_neg h1, if_pos gj, idx_nI (by omega), hn]; exact hB2.2 j (Nat.zero_le _) (by omega), hO3⟩) dX0_carriage_45
