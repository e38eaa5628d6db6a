/-! component: gives -/
set_option maxRecDepth 100000
theorem XOk.car {S : St} {J : XJ} (h : XOk S J) (G B : Nat → Int32) (v : Int32) : XOk S (((J.aGiven' G).aBest' B).kMostG' v) := ⟨h.yds, h.str, h.ppl, h.one, h.oth, h.wnt, h.now, h.und, h.bef, h.perm, h.pinj, h.und0, h.kept0, h.und1, h.kept1, h.age, h.ibef, h.fit, h.fits, h.typed, h.text, h.facts, h.fw, h.fn, h.trace⟩
theorem car_g {J : XJ} {G B : Nat → Int32} {v : Int32} : (((J.aGiven' G).aBest' B).kMostG' v).aGiven = G := rfl
theorem car_b {J : XJ} {G B : Nat → Int32} {v : Int32} : (((J.aGiven' G).aBest' B).kMostG' v).aBest = B := rfl
theorem car_k {J : XJ} {G B : Nat → Int32} {v : Int32} : (((J.aGiven' G).aBest' B).kMostG' v).kMostG = v := rfl
theorem car_car {J : XJ} {G B : Nat → Int32} {v : Int32} {G2 B2 : Nat → Int32} {v2 : Int32} : ((((((J.aGiven' G).aBest' B).kMostG' v).aGiven' G2).aBest' B2).kMostG' v2) = ((J.aGiven' G2).aBest' B2).kMostG' v2 := rfl
theorem car_id {J : XJ} : ((J.aGiven' J.aGiven).aBest' J.aBest).kMostG' J.kMostG = J := rfl
theorem hd_X0_gives : yX0_gives.cls ≠ "java/lang/invoke/MethodHandle" ∧ yX0_gives.cls ≠ "java/lang/invoke/VarHandle" ∧ (parseMethodDescriptor yX0_gives.desc).map (fun d => d.parameters.length) = some 3 := by decide +kernel
/-- X0_gives -/
theorem m_X0_gives0 (l : Launch) (D : va_G) (y : Nat → ClassId) (c : Nat → Nat) (J : XJ) (S : St) (hI : StOk S) (hO : XOk S J) (q0 tk mm g : Nat) (hp : q0 + 0 = S.ppl) (htk : tk < 2 ^ S.str) (hm : mm ≤ q0) (hg : g ≤ 7) (hkg : J.kMostG = dn g) : Met l yX0_gives (ws_ yX0_gives cX0_gives 5 none) ({ frames := 1, cells := 0, slots := 0, locals := 120 }) (va_Pc [.ref (c 0), .int (nI q0), .int (nI tk), .int (nI mm)] (WH D y (XA c) (cellsX y c J))) (va_Qv (fun (J' : XJ) => ∃ G' B' g' v', J' = ((J.aGiven' G').aBest' B').kMostG' v' ∧ v' = dn g' ∧ (∀ i, i < q0 → G' i = J.aGiven i) ∧ GvR S 0 q0 tk mm g J.aGiven J.aBest g' B') (fun (J' : XJ) t => WH D y (XA c) (cellsX y c J') t) (XA c)) 0 0 (XA c) := by
  refine x_start (by decide) (Nat.le_of_ble_eq_true rfl) ?_
  intro p e s m below meth cd ls hx hb hr hts hml hown hlocks hnm hB hl
  have hC := hB.1
  obtain ⟨⟨hK, hN⟩, hP, hD⟩ := hB
  have hS : va_S (XA c) s.heap s.heap [] := va_S.rf
  have hown : s.vm.findClass RX0 = some m.cls := hown
  have hl : lv_has ls 5 [(0, .ref (c 0)), (1, .int (nI q0)), (2, .int (nI tk)), (3, .int (nI mm))] := hl
  have i1 := hI.str
  have i2 := hI.ppl
  have t1 : 2 ^ S.str ≤ 2 ^ 9 := Nat.pow_le_pow_right (by omega) i1
  refine lv_iload_n hx hb dX0_gives_0 rfl (lv_at hl 1 rfl) ?_
  refine lv_aload_n hx hb dX0_gives_1 rfl (lv_at hl 0 rfl) ?_
  refine va_get (D := D) (ci := 0) (v := .ref (c 1)) (C := RX0) (T := TX0) (N := 19) hx hb hts in_X0 hown hK hP 0 rfl rfl 0 (by decide) (hts _ q485) (fun _ h9 => h9) rfl dX0_gives_2 ?_
  refine va_getN (D := D) (ci := 1) (v := .int (nI S.ppl)) (C := RX1) (T := TX1) (N := 8) hx hb hts in_X1 hown hK hP 1 rfl rfl 5 (by decide) (va_Nw.use rfl (hN _ q335 rfl)) (fun _ h9 => h9) (sv hO.ppl) dX0_gives_5 ?_
  refine n_icmp_ne (tgt := 40) hx hb dX0_gives_8 (by decide) (by omega) (by omega) (fun h1 => ?_) (fun h1 => ?_)
  · exfalso; omega
  refine lv_iload_n hx hb dX0_gives_11 rfl (lv_at hl 3 rfl) ?_
  refine lv_aload_n hx hb dX0_gives_12 rfl (lv_at hl 0 rfl) ?_
  refine va_get (D := D) (ci := 0) (v := .int J.kMostG) (C := RX0) (T := TX0) (N := 19) hx hb hts in_X0 hown hK hP 0 rfl rfl 13 (by decide) (hts _ q504) (fun _ h9 => h9) rfl dX0_gives_13 ?_
  refine n_top (y := dn g) (hkg) ?_
  refine lv_icmp_le (tgt := 39) hx hb dX0_gives_16 (by decide) (fun h2 => ?_) (fun h2 => ?_)
  · rw [dn_le (by omega) (by omega)] at h2
    exact h_vret (V := fun J' => cellsX y c J') J hx hb hr hlocks hC hP hD hS (⟨J.aGiven, J.aBest, g, J.kMostG, car_id.symm, hkg, fun i _ => rfl, GvR.stay h2⟩) dX0_gives_39
  rw [dn_le (by omega) (by omega)] at h2
  refine lv_aload_n hx hb dX0_gives_19 rfl (lv_at hl 0 rfl) ?_
  refine lv_iload_n hx hb dX0_gives_20 rfl (lv_at hl 3 rfl) ?_
  refine va_put (D := D) (ci := 0) (v := .int (nI mm)) (ty := .int) (C := RX0) (T := TX0) (N := 19) hx hb hts in_X0 tyX0 tyX0_ok nmX0 hown hK hP hD hS 0 rfl rfl 13 (by decide) (hts _ q504) (fun _ h9 => h9) rfl (by decide +kernel) rfl rfl (Nat.le_of_ble_eq_true rfl) dX0_gives_21 (fun H locs hP hD hS => ?_)
  have hP : va_P D kcl (cellsX y c (J.kMostG' (nI mm))) H := hP
  have hD : va_D (XA c) (cellsX y c (J.kMostG' (nI mm))) := hD
  refine lv_aload_n hx hb dX0_gives_24 rfl (lv_at hl 0 rfl) ?_
  refine va_get (D := D) (ci := 0) (v := .ref (c 14)) (C := RX0) (T := TX0) (N := 19) hx hb hts in_X0 hown hK hP 0 rfl rfl 11 (by decide) (hts _ q502) (fun _ h9 => h9) rfl dX0_gives_25 ?_
  refine lv_iconst (v := nI 0) hx hb dX0_gives_28 (by decide) ?_
  refine lv_aload_n hx hb dX0_gives_29 rfl (lv_at hl 0 rfl) ?_
  refine va_get (D := D) (ci := 0) (v := .ref (c 15)) (C := RX0) (T := TX0) (N := 19) hx hb hts in_X0 hown hK hP 0 rfl rfl 12 (by decide) (hts _ q503) (fun _ h9 => h9) rfl dX0_gives_30 ?_
  refine lv_iconst (v := nI 0) hx hb dX0_gives_33 (by decide) ?_
  refine lv_bipush (v := nI 6) hx hb dX0_gives_34 (by decide) ?_
  refine n_copyi (sp := 0) (dp := 0) (n := 6) hx hb (hml.trans hl.1.symm) hown (hts _ q599) (hts _ q299) (hts _ q298) (hts _ q75) hK hP hD hS 14 15 0 0 rfl rfl rfl rfl rfl (by decide) (by decide) (by decide) (by decide) (fun i hi => rfl) (Nat.le_of_ble_eq_true rfl) (by decide) dX0_gives_36 (fun H locs hP hD hS => ?_)
  have hP : va_P D kcl (cellsX y c ((J.kMostG' (nI mm)).aBest' (va_cpy J.aGiven J.aBest 0 0 6))) H := hP
  have hD : va_D (XA c) (cellsX y c ((J.kMostG' (nI mm)).aBest' (va_cpy J.aGiven J.aBest 0 0 6))) := hD
  exact h_vret (V := fun J' => cellsX y c J') ((J.kMostG' (nI mm)).aBest' (va_cpy J.aGiven J.aBest 0 0 6)) hx hb hr hlocks hC hP hD hS (⟨J.aGiven, va_cpy J.aGiven J.aBest 0 0 6, mm + 1, nI mm, rfl, (dn_s mm).symm, fun i _ => rfl, GvR.leaf (by omega) (fun i hi => sb_cpy0 (by omega)) (by omega)⟩) dX0_gives_39
/-- X0_gives -/
theorem m_X0_gives1 (l : Launch) (D : va_G) (y : Nat → ClassId) (c : Nat → Nat) (J : XJ) (S : St) (hI : StOk S) (hO : XOk S J) (q0 tk mm g : Nat) (hp : q0 + 1 = S.ppl) (htk : tk < 2 ^ S.str) (hm : mm ≤ q0) (hg : g ≤ 7) (hkg : J.kMostG = dn g) : Met l yX0_gives (ws_ yX0_gives cX0_gives 5 none) ({ frames := 2, cells := 0, slots := 0, locals := 144 }) (va_Pc [.ref (c 0), .int (nI q0), .int (nI tk), .int (nI mm)] (WH D y (XA c) (cellsX y c J))) (va_Qv (fun (J' : XJ) => ∃ G' B' g' v', J' = ((J.aGiven' G').aBest' B').kMostG' v' ∧ v' = dn g' ∧ (∀ i, i < q0 → G' i = J.aGiven i) ∧ GvR S 1 q0 tk mm g J.aGiven J.aBest g' B') (fun (J' : XJ) t => WH D y (XA c) (cellsX y c J') t) (XA c)) 0 0 (XA c) := by
  refine x_start (by decide) (Nat.le_of_ble_eq_true rfl) ?_
  intro p e s m below meth cd ls hx hb hr hts hml hown hlocks hnm hB hl
  have hC := hB.1
  obtain ⟨⟨hK, hN⟩, hP, hD⟩ := hB
  have hS : va_S (XA c) s.heap s.heap [] := va_S.rf
  have hown : s.vm.findClass RX0 = some m.cls := hown
  have hl : lv_has ls 5 [(0, .ref (c 0)), (1, .int (nI q0)), (2, .int (nI tk)), (3, .int (nI mm))] := hl
  have i1 := hI.str
  have i2 := hI.ppl
  have t1 : 2 ^ S.str ≤ 2 ^ 9 := Nat.pow_le_pow_right (by omega) i1
  refine lv_iload_n hx hb dX0_gives_0 rfl (lv_at hl 1 rfl) ?_
  refine lv_aload_n hx hb dX0_gives_1 rfl (lv_at hl 0 rfl) ?_
  refine va_get (D := D) (ci := 0) (v := .ref (c 1)) (C := RX0) (T := TX0) (N := 19) hx hb hts in_X0 hown hK hP 0 rfl rfl 0 (by decide) (hts _ q485) (fun _ h9 => h9) rfl dX0_gives_2 ?_
  refine va_getN (D := D) (ci := 1) (v := .int (nI S.ppl)) (C := RX1) (T := TX1) (N := 8) hx hb hts in_X1 hown hK hP 1 rfl rfl 5 (by decide) (va_Nw.use rfl (hN _ q335 rfl)) (fun _ h9 => h9) (sv hO.ppl) dX0_gives_5 ?_
  refine n_icmp_ne (tgt := 40) hx hb dX0_gives_8 (by decide) (by omega) (by omega) (fun h1 => ?_) (fun h1 => ?_)
  rotate_left
  · exfalso; omega
  have i3 := hI.wnt q0 (by omega)
  have hP : va_P D kcl (cellsX y c (((J.aGiven' J.aGiven).aBest' J.aBest).kMostG' J.kMostG)) s.heap := by rw [car_id]; exact hP
  have hD : va_D (XA c) (cellsX y c (((J.aGiven' J.aGiven).aBest' J.aBest).kMostG' J.kMostG)) := by rw [car_id]; exact hD
  refine lv_iconst (v := nI 0) hx hb dX0_gives_40 (by decide) ?_
  refine lv_istore (lv' := [(4, .int (nI 0)), (0, .ref (c 0)), (1, .int (nI q0)), (2, .int (nI tk)), (3, .int (nI mm))]) hx hb dX0_gives_41 hl (by decide) rfl (fun ls hl => ?_)
  refine w_loopH (α := Nat × (Nat → Int32) × (Nat → Int32) × Nat × Int32) (nL := 5) 43 (fun a_ => [(0, .ref (c 0)), (1, .int (nI q0)), (2, .int (nI tk)), (3, .int (nI mm)), (4, .int (nI a_.1))]) (fun a_ => cellsX y c (((J.aGiven' a_.2.1).aBest' a_.2.2.1).kMostG' a_.2.2.2.2)) (fun a_ => a_.1 ≤ S.str ∧ (∀ k, k < q0 → a_.2.1 k = J.aGiven k) ∧ a_.2.2.2.1 ≤ 7 ∧ GvL S 0 q0 tk mm g J.aGiven J.aBest a_.1 a_.2.2.2.1 a_.2.2.1 ∧ a_.2.2.2.2 = dn a_.2.2.2.1) (fun a_ => S.str - a_.1) ?_ (0, J.aGiven, J.aBest, g, J.kMostG) (⟨Nat.zero_le _, fun k _ => rfl, hg, GvL.zero, hkg⟩) ls _ _ (lv_sub hl [1, 2, 3, 4, 0] rfl) hP hD hS
  rintro ⟨i, G, B, g1, vg⟩ hi ih ls H locs hl hP hD hS
  have hP : va_P D kcl (cellsX y c (((J.aGiven' G).aBest' B).kMostG' vg)) H := hP
  have hD : va_D (XA c) (cellsX y c (((J.aGiven' G).aBest' B).kMostG' vg)) := hD
  have hi : i ≤ S.str ∧ (∀ k, k < q0 → G k = J.aGiven k) ∧ g1 ≤ 7 ∧ GvL S 0 q0 tk mm g J.aGiven J.aBest i g1 B ∧ vg = dn g1 := hi
  have hl : lv_has ls 5 [(0, .ref (c 0)), (1, .int (nI q0)), (2, .int (nI tk)), (3, .int (nI mm)), (4, .int (nI i))] := hl
  obtain ⟨hi1, hG, hg1, hL, hvg⟩ := hi
  have hO1 := XOk.car hO G B vg
  refine lv_iload hx hb dX0_gives_43 (lv_at hl 4 rfl) ?_
  refine lv_aload_n hx hb dX0_gives_45 rfl (lv_at hl 0 rfl) ?_
  refine va_get (D := D) (ci := 0) (v := .ref (c 1)) (C := RX0) (T := TX0) (N := 19) hx hb hts in_X0 hown hK hP 0 rfl rfl 0 (by decide) (hts _ q485) (fun _ h9 => h9) rfl dX0_gives_46 ?_
  refine va_getN (D := D) (ci := 1) (v := .int (nI S.str)) (C := RX1) (T := TX1) (N := 8) hx hb hts in_X1 hown hK hP 1 rfl rfl 1 (by decide) (va_Nw.use rfl (hN _ q322 rfl)) (fun _ h9 => h9) (sv hO1.str) dX0_gives_49 ?_
  refine n_icmp_ge (tgt := 115) hx hb dX0_gives_52 (by decide) (by omega) (by omega) (fun h3 => ?_) (fun h3 => ?_)
  · have ei : i = S.str := by omega
    rw [ei] at hL
    refine lv_aload_n hx hb dX0_gives_115 rfl (lv_at hl 0 rfl) ?_
    refine va_get (D := D) (ci := 0) (v := .ref (c 14)) (C := RX0) (T := TX0) (N := 19) hx hb hts in_X0 hown hK hP 0 rfl rfl 11 (by decide) (hts _ q502) (fun _ h9 => h9) rfl dX0_gives_116 ?_
    refine lv_iload_n hx hb dX0_gives_119 rfl (lv_at hl 1 rfl) ?_
    refine lv_bipush (v := (-9)) hx hb dX0_gives_120 (by decide) ?_
    refine n_iast hx hb hK hP hD hS 14 0 rfl rfl (j := q0) (by omega) (by decide) dX0_gives_122 (fun H locs hP hD hS => ?_)
    have hP : va_P D kcl (cellsX y c (((J.aBest' B).kMostG' vg).aGiven' (upd G q0 (-9)))) H := hP
    have hD : va_D (XA c) (cellsX y c (((J.aBest' B).kMostG' vg).aGiven' (upd G q0 (-9)))) := hD
    refine lv_aload_n hx hb dX0_gives_123 rfl (lv_at hl 0 rfl) ?_
    refine lv_iload_n hx hb dX0_gives_124 rfl (lv_at hl 1 rfl) ?_
    refine lv_iconst (v := nI 1) hx hb dX0_gives_125 (by decide) ?_
    refine n_add hx hb dX0_gives_126 ?_
    refine lv_iload_n hx hb dX0_gives_127 rfl (lv_at hl 2 rfl) ?_
    refine lv_iload_n hx hb dX0_gives_128 rfl (lv_at hl 3 rfl) ?_
    have hP : va_P D kcl (cellsX y c (((J.aGiven' (upd G q0 (-9))).aBest' B).kMostG' vg)) H := hP
    have hD : va_D (XA c) (cellsX y c (((J.aGiven' (upd G q0 (-9))).aBest' B).kMostG' vg)) := hD
    have hO2 := XOk.car hO (upd G q0 (-9)) B vg
    refine h_callv (va_runV (As := [.int (nI (q0 + 1)), .int (nI tk), .int (nI mm)]) (rest := []) ⟨hx, hb, hml, hown, hts⟩ (m_X0_gives0 l D y c (((J.aGiven' (upd G q0 (-9))).aBest' B).kMostG' vg) S hI hO2 (q0 + 1) tk mm g1 (by omega) htk (by omega) hg1 (car_k.trans hvg)) (cwV 3 hts (lw_V q729 q731 qs25 q54 q732) rfl rfl rfl ⟨rfl, hd_X0_gives⟩ ⟨Nat.le_of_ble_eq_true rfl, Nat.le_of_ble_eq_true rfl⟩) (preVH hC hP hD 0 0 rfl rfl) rfl rfl hl.1 rfl (lv_room (Nat.le_of_ble_eq_true rfl)) dX0_gives_129 ⟨Nat.le_of_ble_eq_true rfl, Nat.le_of_ble_eq_true rfl⟩) hS (fun J2 H locs hp2 hP hD hS => ?_)
    have hP : va_P D kcl (cellsX y c J2) H := hP
    have hD : va_D (XA c) (cellsX y c J2) := hD
    obtain ⟨G2, B2, g2, v2, e2, hv2, hG2, hR⟩ := hp2
    rw [car_car] at e2
    rw [car_g] at hG2 hR
    rw [car_b] at hR
    subst e2
    exact h_vret (V := fun J' => cellsX y c J') (((J.aGiven' G2).aBest' B2).kMostG' v2) hx hb hr hlocks hC hP hD hS (⟨G2, B2, g2, v2, rfl, hv2, fun k hk => (hG2 k (by omega)).trans ((pk_un (by omega)).trans (hG k hk)), hL.end (fun k hk => (pk_un (by omega)).trans (hG k hk)) pk_us hR⟩) dX0_gives_132
  refine lv_iload_n hx hb dX0_gives_55 rfl (lv_at hl 2 rfl) ?_
  refine lv_iload hx hb dX0_gives_56 (lv_at hl 4 rfl) ?_
  refine va_callR (va_runS (As := [.int (nI tk), .int (nI i)]) (rest := []) ⟨hx, hb, hml, hown, hts⟩ (m_X0_has l tk i (by omega) (by omega)) (va_cwS 2 hts (lw_S q634 q635 q54 q636) rfl rfl rfl hd_X0_has ⟨Nat.le_of_ble_eq_true rfl, Nat.le_of_ble_eq_true rfl⟩) pre0 rfl rfl hl.1 rfl (lv_room (Nat.le_of_ble_eq_true rfl)) dX0_gives_58 ⟨Nat.le_of_ble_eq_true rfl, Nat.le_of_ble_eq_true rfl⟩) ?_
  refine z_if_ne (tgt := 109) hx hb dX0_gives_61 (by decide) (fun h4 => ?_) (fun h4 => ?_)
  · refine lv_iinc (v := nI (i + 1)) (lv' := [(4, .int (nI (i + 1))), (0, .ref (c 0)), (1, .int (nI q0)), (2, .int (nI tk)), (3, .int (nI mm))]) hx hb dX0_gives_109 hl (k := 4) rfl (nI_inc _) (by decide) rfl (fun ls hl => ?_)
    refine lv_goto (tgt := 43) hx hb dX0_gives_112 (by decide) ?_
    exact ih (i + 1, G, B, g1, vg) (⟨by dsimp only; omega, hG, hg1, hL.skip (okC_has h4), hvg⟩) (by dsimp only; omega) ls _ _ (lv_sub hl [1, 2, 3, 4, 0] rfl) hP hD hS
  have i4 := wid_le hI.now (show i < S.str by omega)
  refine lv_aload_n hx hb dX0_gives_64 rfl (lv_at hl 0 rfl) ?_
  refine va_get (D := D) (ci := 0) (v := .ref (c 7)) (C := RX0) (T := TX0) (N := 19) hx hb hts in_X0 hown hK hP 0 rfl rfl 5 (by decide) (hts _ q496) (fun _ h9 => h9) rfl dX0_gives_65 ?_
  refine lv_iload hx hb dX0_gives_68 (lv_at hl 4 rfl) ?_
  refine va_callR (va_runV (As := [.int (nI i)]) (rest := []) ⟨hx, hb, hml, hown, hts⟩ (m_X3_width l D y c (((J.aGiven' G).aBest' B).kMostG' vg) S hI hO1 i (by omega)) (cwV 1 hts (lw_V q563 q564 q565 q57 q566) rfl rfl rfl ⟨rfl, hd_X3_width⟩ ⟨Nat.le_of_ble_eq_true rfl, Nat.le_of_ble_eq_true rfl⟩) (preVR hC hP 3 7 rfl rfl) rfl rfl hl.1 rfl (lv_room (Nat.le_of_ble_eq_true rfl)) dX0_gives_70 ⟨Nat.le_of_ble_eq_true rfl, Nat.le_of_ble_eq_true rfl⟩) ?_
  refine lv_aload_n hx hb dX0_gives_73 rfl (lv_at hl 0 rfl) ?_
  refine va_get (D := D) (ci := 0) (v := .ref (c 1)) (C := RX0) (T := TX0) (N := 19) hx hb hts in_X0 hown hK hP 0 rfl rfl 0 (by decide) (hts _ q485) (fun _ h9 => h9) rfl dX0_gives_74 ?_
  refine va_getN (D := D) (ci := 1) (v := .ref (c 6)) (C := RX1) (T := TX1) (N := 8) hx hb hts in_X1 hown hK hP 1 rfl rfl 7 (by decide) (va_Nw.use rfl (hN _ q341 rfl)) (fun _ h9 => h9) rfl dX0_gives_77 ?_
  refine lv_iload_n hx hb dX0_gives_80 rfl (lv_at hl 1 rfl) ?_
  refine n_iald (v := nI (S.wnt q0)) hx hb hK hP 6 0 rfl rfl (j := q0) (by omega) (by decide) (hO1.wnt q0 (by omega)) dX0_gives_81 ?_
  refine n_icmp_lt (tgt := 109) hx hb dX0_gives_82 (by decide) (by omega) (by omega) (fun h5 => ?_) (fun h5 => ?_)
  · refine lv_iinc (v := nI (i + 1)) (lv' := [(4, .int (nI (i + 1))), (0, .ref (c 0)), (1, .int (nI q0)), (2, .int (nI tk)), (3, .int (nI mm))]) hx hb dX0_gives_109 hl (k := 4) rfl (nI_inc _) (by decide) rfl (fun ls hl => ?_)
    refine lv_goto (tgt := 43) hx hb dX0_gives_112 (by decide) ?_
    exact ih (i + 1, G, B, g1, vg) (⟨by dsimp only; omega, hG, hg1, hL.skip (okC_lt h5), hvg⟩) (by dsimp only; omega) ls _ _ (lv_sub hl [1, 2, 3, 4, 0] rfl) hP hD hS
  refine lv_aload_n hx hb dX0_gives_85 rfl (lv_at hl 0 rfl) ?_
  refine va_get (D := D) (ci := 0) (v := .ref (c 14)) (C := RX0) (T := TX0) (N := 19) hx hb hts in_X0 hown hK hP 0 rfl rfl 11 (by decide) (hts _ q502) (fun _ h9 => h9) rfl dX0_gives_86 ?_
  refine lv_iload_n hx hb dX0_gives_89 rfl (lv_at hl 1 rfl) ?_
  refine lv_iload hx hb dX0_gives_90 (lv_at hl 4 rfl) ?_
  refine n_iast hx hb hK hP hD hS 14 0 rfl rfl (j := q0) (by omega) (by decide) dX0_gives_92 (fun H locs hP hD hS => ?_)
  have hP : va_P D kcl (cellsX y c (((J.aBest' B).kMostG' vg).aGiven' (upd G q0 (nI i)))) H := hP
  have hD : va_D (XA c) (cellsX y c (((J.aBest' B).kMostG' vg).aGiven' (upd G q0 (nI i)))) := hD
  refine lv_aload_n hx hb dX0_gives_93 rfl (lv_at hl 0 rfl) ?_
  refine lv_iload_n hx hb dX0_gives_94 rfl (lv_at hl 1 rfl) ?_
  refine lv_iconst (v := nI 1) hx hb dX0_gives_95 (by decide) ?_
  refine n_add hx hb dX0_gives_96 ?_
  refine lv_iload_n hx hb dX0_gives_97 rfl (lv_at hl 2 rfl) ?_
  refine lv_iconst (v := nI 1) hx hb dX0_gives_98 (by decide) ?_
  refine lv_iload hx hb dX0_gives_99 (lv_at hl 4 rfl) ?_
  refine n_shl1 hx hb dX0_gives_101 (by omega) ?_
  refine n_or hx hb dX0_gives_102 ?_
  refine lv_iload_n hx hb dX0_gives_103 rfl (lv_at hl 3 rfl) ?_
  refine lv_iconst (v := nI 1) hx hb dX0_gives_104 (by decide) ?_
  refine n_add hx hb dX0_gives_105 ?_
  have hP : va_P D kcl (cellsX y c (((J.aGiven' (upd G q0 (nI i))).aBest' B).kMostG' vg)) H := hP
  have hD : va_D (XA c) (cellsX y c (((J.aGiven' (upd G q0 (nI i))).aBest' B).kMostG' vg)) := hD
  have hO2 := XOk.car hO (upd G q0 (nI i)) B vg
  refine h_callv (va_runV (As := [.int (nI (q0 + 1)), .int (nI (tk ||| (2 ^ i))), .int (nI (mm + 1))]) (rest := []) ⟨hx, hb, hml, hown, hts⟩ (m_X0_gives0 l D y c (((J.aGiven' (upd G q0 (nI i))).aBest' B).kMostG' vg) S hI hO2 (q0 + 1) (tk ||| 2 ^ i) (mm + 1) g1 (by omega) (Nat.or_lt_two_pow htk (Nat.pow_lt_pow_right (by omega) (by omega))) (by omega) hg1 (car_k.trans hvg)) (cwV 3 hts (lw_V q729 q731 qs25 q54 q732) rfl rfl rfl ⟨rfl, hd_X0_gives⟩ ⟨Nat.le_of_ble_eq_true rfl, Nat.le_of_ble_eq_true rfl⟩) (preVH hC hP hD 0 0 rfl rfl) rfl rfl hl.1 rfl (lv_room (Nat.le_of_ble_eq_true rfl)) dX0_gives_106 ⟨Nat.le_of_ble_eq_true rfl, Nat.le_of_ble_eq_true rfl⟩) hS (fun J2 H locs hp2 hP hD hS => ?_)
  have hP : va_P D kcl (cellsX y c J2) H := hP
  have hD : va_D (XA c) (cellsX y c J2) := hD
  obtain ⟨G2, B2, g2, v2, e2, hv2, hG2, hR⟩ := hp2
  rw [car_car] at e2
  rw [car_g] at hG2 hR
  rw [car_b] at hR
  subst e2
  refine lv_iinc (v := nI (i + 1)) (lv' := [(4, .int (nI (i + 1))), (0, .ref (c 0)), (1, .int (nI q0)), (2, .int (nI tk)), (3, .int (nI mm))]) hx hb dX0_gives_109 hl (k := 4) rfl (nI_inc _) (by decide) rfl (fun ls hl => ?_)
  refine lv_goto (tgt := 43) hx hb dX0_gives_112 (by decide) ?_
  exact ih (i + 1, G2, B2, g2, v2) (⟨by dsimp only; omega, fun k hk => (hG2 k (by omega)).trans ((pk_un (by omega)).trans (hG k hk)), hR.le (by omega) (by omega) hg1, hL.try (okC_ok h4 (by omega)) (fun k hk => (pk_un (by omega)).trans (hG k hk)) pk_us hR, hv2⟩) (by dsimp only; omega) ls _ _ (lv_sub hl [1, 2, 3, 4, 0] rfl) hP hD hS
/-- X0_gives -/
theorem m_X0_gives2 (l : Launch) (D : va_G) (y : Nat → ClassId) (c : Nat → Nat) (J : XJ) (S : St) (hI : StOk S) (hO : XOk S J) (q0 tk mm g : Nat) (hp : q0 + 2 = S.ppl) (htk : tk < 2 ^ S.str) (hm : mm ≤ q0) (hg : g ≤ 7) (hkg : J.kMostG = dn g) : Met l yX0_gives (ws_ yX0_gives cX0_gives 5 none) ({ frames := 3, cells := 0, slots := 0, locals := 168 }) (va_Pc [.ref (c 0), .int (nI q0), .int (nI tk), .int (nI mm)] (WH D y (XA c) (cellsX y c J))) (va_Qv (fun (J' : XJ) => ∃ G' B' g' v', J' = ((J.aGiven' G').aBest' B').kMostG' v' ∧ v' = dn g' ∧ (∀ i, i < q0 → G' i = J.aGiven i) ∧ GvR S 2 q0 tk mm g J.aGiven J.aBest g' B') (fun (J' : XJ) t => WH D y (XA c) (cellsX y c J') t) (XA c)) 0 0 (XA c) := by
  refine x_start (by decide) (Nat.le_of_ble_eq_true rfl) ?_
  intro p e s m below meth cd ls hx hb hr hts hml hown hlocks hnm hB hl
  have hC := hB.1
  obtain ⟨⟨hK, hN⟩, hP, hD⟩ := hB
  have hS : va_S (XA c) s.heap s.heap [] := va_S.rf
  have hown : s.vm.findClass RX0 = some m.cls := hown
  have hl : lv_has ls 5 [(0, .ref (c 0)), (1, .int (nI q0)), (2, .int (nI tk)), (3, .int (nI mm))] := hl
  have i1 := hI.str
  have i2 := hI.ppl
  have t1 : 2 ^ S.str ≤ 2 ^ 9 := Nat.pow_le_pow_right (by omega) i1
  refine lv_iload_n hx hb dX0_gives_0 rfl (lv_at hl 1 rfl) ?_
  refine lv_aload_n hx hb dX0_gives_1 rfl (lv_at hl 0 rfl) ?_
  refine va_get (D := D) (ci := 0) (v := .ref (c 1)) (C := RX0) (T := TX0) (N := 19) hx hb hts in_X0 hown hK hP 0 rfl rfl 0 (by decide) (hts _ q485) (fun _ h9 => h9) rfl dX0_gives_2 ?_
  refine va_getN (D := D) (ci := 1) (v := .int (nI S.ppl)) (C := RX1) (T := TX1) (N := 8) hx hb hts in_X1 hown hK hP 1 rfl rfl 5 (by decide) (va_Nw.use rfl (hN _ q335 rfl)) (fun _ h9 => h9) (sv hO.ppl) dX0_gives_5 ?_
  refine n_icmp_ne (tgt := 40) hx hb dX0_gives_8 (by decide) (by omega) (by omega) (fun h1 => ?_) (fun h1 => ?_)
  rotate_left
  · exfalso; omega
  have i3 := hI.wnt q0 (by omega)
  have hP : va_P D kcl (cellsX y c (((J.aGiven' J.aGiven).aBest' J.aBest).kMostG' J.kMostG)) s.heap := by rw [car_id]; exact hP
  have hD : va_D (XA c) (cellsX y c (((J.aGiven' J.aGiven).aBest' J.aBest).kMostG' J.kMostG)) := by rw [car_id]; exact hD
  refine lv_iconst (v := nI 0) hx hb dX0_gives_40 (by decide) ?_
  refine lv_istore (lv' := [(4, .int (nI 0)), (0, .ref (c 0)), (1, .int (nI q0)), (2, .int (nI tk)), (3, .int (nI mm))]) hx hb dX0_gives_41 hl (by decide) rfl (fun ls hl => ?_)
  refine w_loopH (α := Nat × (Nat → Int32) × (Nat → Int32) × Nat × Int32) (nL := 5) 43 (fun a_ => [(0, .ref (c 0)), (1, .int (nI q0)), (2, .int (nI tk)), (3, .int (nI mm)), (4, .int (nI a_.1))]) (fun a_ => cellsX y c (((J.aGiven' a_.2.1).aBest' a_.2.2.1).kMostG' a_.2.2.2.2)) (fun a_ => a_.1 ≤ S.str ∧ (∀ k, k < q0 → a_.2.1 k = J.aGiven k) ∧ a_.2.2.2.1 ≤ 7 ∧ GvL S 1 q0 tk mm g J.aGiven J.aBest a_.1 a_.2.2.2.1 a_.2.2.1 ∧ a_.2.2.2.2 = dn a_.2.2.2.1) (fun a_ => S.str - a_.1) ?_ (0, J.aGiven, J.aBest, g, J.kMostG) (⟨Nat.zero_le _, fun k _ => rfl, hg, GvL.zero, hkg⟩) ls _ _ (lv_sub hl [1, 2, 3, 4, 0] rfl) hP hD hS
  rintro ⟨i, G, B, g1, vg⟩ hi ih ls H locs hl hP hD hS
  have hP : va_P D kcl (cellsX y c (((J.aGiven' G).aBest' B).kMostG' vg)) H := hP
  have hD : va_D (XA c) (cellsX y c (((J.aGiven' G).aBest' B).kMostG' vg)) := hD
  have hi : i ≤ S.str ∧ (∀ k, k < q0 → G k = J.aGiven k) ∧ g1 ≤ 7 ∧ GvL S 1 q0 tk mm g J.aGiven J.aBest i g1 B ∧ vg = dn g1 := hi
  have hl : lv_has ls 5 [(0, .ref (c 0)), (1, .int (nI q0)), (2, .int (nI tk)), (3, .int (nI mm)), (4, .int (nI i))] := hl
  obtain ⟨hi1, hG, hg1, hL, hvg⟩ := hi
  have hO1 := XOk.car hO G B vg
  refine lv_iload hx hb dX0_gives_43 (lv_at hl 4 rfl) ?_
  refine lv_aload_n hx hb dX0_gives_45 rfl (lv_at hl 0 rfl) ?_
  refine va_get (D := D) (ci := 0) (v := .ref (c 1)) (C := RX0) (T := TX0) (N := 19) hx hb hts in_X0 hown hK hP 0 rfl rfl 0 (by decide) (hts _ q485) (fun _ h9 => h9) rfl dX0_gives_46 ?_
  refine va_getN (D := D) (ci := 1) (v := .int (nI S.str)) (C := RX1) (T := TX1) (N := 8) hx hb hts in_X1 hown hK hP 1 rfl rfl 1 (by decide) (va_Nw.use rfl (hN _ q322 rfl)) (fun _ h9 => h9) (sv hO1.str) dX0_gives_49 ?_
  refine n_icmp_ge (tgt := 115) hx hb dX0_gives_52 (by decide) (by omega) (by omega) (fun h3 => ?_) (fun h3 => ?_)
  · have ei : i = S.str := by omega
    rw [ei] at hL
    refine lv_aload_n hx hb dX0_gives_115 rfl (lv_at hl 0 rfl) ?_
    refine va_get (D := D) (ci := 0) (v := .ref (c 14)) (C := RX0) (T := TX0) (N := 19) hx hb hts in_X0 hown hK hP 0 rfl rfl 11 (by decide) (hts _ q502) (fun _ h9 => h9) rfl dX0_gives_116 ?_
    refine lv_iload_n hx hb dX0_gives_119 rfl (lv_at hl 1 rfl) ?_
    refine lv_bipush (v := (-9)) hx hb dX0_gives_120 (by decide) ?_
    refine n_iast hx hb hK hP hD hS 14 0 rfl rfl (j := q0) (by omega) (by decide) dX0_gives_122 (fun H locs hP hD hS => ?_)
    have hP : va_P D kcl (cellsX y c (((J.aBest' B).kMostG' vg).aGiven' (upd G q0 (-9)))) H := hP
    have hD : va_D (XA c) (cellsX y c (((J.aBest' B).kMostG' vg).aGiven' (upd G q0 (-9)))) := hD
    refine lv_aload_n hx hb dX0_gives_123 rfl (lv_at hl 0 rfl) ?_
    refine lv_iload_n hx hb dX0_gives_124 rfl (lv_at hl 1 rfl) ?_
    refine lv_iconst (v := nI 1) hx hb dX0_gives_125 (by decide) ?_
    refine n_add hx hb dX0_gives_126 ?_
    refine lv_iload_n hx hb dX0_gives_127 rfl (lv_at hl 2 rfl) ?_
    refine lv_iload_n hx hb dX0_gives_128 rfl (lv_at hl 3 rfl) ?_
    have hP : va_P D kcl (cellsX y c (((J.aGiven' (upd G q0 (-9))).aBest' B).kMostG' vg)) H := hP
    have hD : va_D (XA c) (cellsX y c (((J.aGiven' (upd G q0 (-9))).aBest' B).kMostG' vg)) := hD
    have hO2 := XOk.car hO (upd G q0 (-9)) B vg
    refine h_callv (va_runV (As := [.int (nI (q0 + 1)), .int (nI tk), .int (nI mm)]) (rest := []) ⟨hx, hb, hml, hown, hts⟩ (m_X0_gives1 l D y c (((J.aGiven' (upd G q0 (-9))).aBest' B).kMostG' vg) S hI hO2 (q0 + 1) tk mm g1 (by omega) htk (by omega) hg1 (car_k.trans hvg)) (cwV 3 hts (lw_V q729 q731 qs25 q54 q732) rfl rfl rfl ⟨rfl, hd_X0_gives⟩ ⟨Nat.le_of_ble_eq_true rfl, Nat.le_of_ble_eq_true rfl⟩) (preVH hC hP hD 0 0 rfl rfl) rfl rfl hl.1 rfl (lv_room (Nat.le_of_ble_eq_true rfl)) dX0_gives_129 ⟨Nat.le_of_ble_eq_true rfl, Nat.le_of_ble_eq_true rfl⟩) hS (fun J2 H locs hp2 hP hD hS => ?_)
    have hP : va_P D kcl (cellsX y c J2) H := hP
    have hD : va_D (XA c) (cellsX y c J2) := hD
    obtain ⟨G2, B2, g2, v2, e2, hv2, hG2, hR⟩ := hp2
    rw [car_car] at e2
    rw [car_g] at hG2 hR
    rw [car_b] at hR
    subst e2
    exact h_vret (V := fun J' => cellsX y c J') (((J.aGiven' G2).aBest' B2).kMostG' v2) hx hb hr hlocks hC hP hD hS (⟨G2, B2, g2, v2, rfl, hv2, fun k hk => (hG2 k (by omega)).trans ((pk_un (by omega)).trans (hG k hk)), hL.end (fun k hk => (pk_un (by omega)).trans (hG k hk)) pk_us hR⟩) dX0_gives_132
  refine lv_iload_n hx hb dX0_gives_55 rfl (lv_at hl 2 rfl) ?_
  refine lv_iload hx hb dX0_gives_56 (lv_at hl 4 rfl) ?_
  refine va_callR (va_runS (As := [.int (nI tk), .int (nI i)]) (rest := []) ⟨hx, hb, hml, hown, hts⟩ (m_X0_has l tk i (by omega) (by omega)) (va_cwS 2 hts (lw_S q634 q635 q54 q636) rfl rfl rfl hd_X0_has ⟨Nat.le_of_ble_eq_true rfl, Nat.le_of_ble_eq_true rfl⟩) pre0 rfl rfl hl.1 rfl (lv_room (Nat.le_of_ble_eq_true rfl)) dX0_gives_58 ⟨Nat.le_of_ble_eq_true rfl, Nat.le_of_ble_eq_true rfl⟩) ?_
  refine z_if_ne (tgt := 109) hx hb dX0_gives_61 (by decide) (fun h4 => ?_) (fun h4 => ?_)
  · refine lv_iinc (v := nI (i + 1)) (lv' := [(4, .int (nI (i + 1))), (0, .ref (c 0)), (1, .int (nI q0)), (2, .int (nI tk)), (3, .int (nI mm))]) hx hb dX0_gives_109 hl (k := 4) rfl (nI_inc _) (by decide) rfl (fun ls hl => ?_)
    refine lv_goto (tgt := 43) hx hb dX0_gives_112 (by decide) ?_
    exact ih (i + 1, G, B, g1, vg) (⟨by dsimp only; omega, hG, hg1, hL.skip (okC_has h4), hvg⟩) (by dsimp only; omega) ls _ _ (lv_sub hl [1, 2, 3, 4, 0] rfl) hP hD hS
  have i4 := wid_le hI.now (show i < S.str by omega)
  refine lv_aload_n hx hb dX0_gives_64 rfl (lv_at hl 0 rfl) ?_
  refine va_get (D := D) (ci := 0) (v := .ref (c 7)) (C := RX0) (T := TX0) (N := 19) hx hb hts in_X0 hown hK hP 0 rfl rfl 5 (by decide) (hts _ q496) (fun _ h9 => h9) rfl dX0_gives_65 ?_
  refine lv_iload hx hb dX0_gives_68 (lv_at hl 4 rfl) ?_
  refine va_callR (va_runV (As := [.int (nI i)]) (rest := []) ⟨hx, hb, hml, hown, hts⟩ (m_X3_width l D y c (((J.aGiven' G).aBest' B).kMostG' vg) S hI hO1 i (by omega)) (cwV 1 hts (lw_V q563 q564 q565 q57 q566) rfl rfl rfl ⟨rfl, hd_X3_width⟩ ⟨Nat.le_of_ble_eq_true rfl, Nat.le_of_ble_eq_true rfl⟩) (preVR hC hP 3 7 rfl rfl) rfl rfl hl.1 rfl (lv_room (Nat.le_of_ble_eq_true rfl)) dX0_gives_70 ⟨Nat.le_of_ble_eq_true rfl, Nat.le_of_ble_eq_true rfl⟩) ?_
  refine lv_aload_n hx hb dX0_gives_73 rfl (lv_at hl 0 rfl) ?_
  refine va_get (D := D) (ci := 0) (v := .ref (c 1)) (C := RX0) (T := TX0) (N := 19) hx hb hts in_X0 hown hK hP 0 rfl rfl 0 (by decide) (hts _ q485) (fun _ h9 => h9) rfl dX0_gives_74 ?_
  refine va_getN (D := D) (ci := 1) (v := .ref (c 6)) (C := RX1) (T := TX1) (N := 8) hx hb hts in_X1 hown hK hP 1 rfl rfl 7 (by decide) (va_Nw.use rfl (hN _ q341 rfl)) (fun _ h9 => h9) rfl dX0_gives_77 ?_
  refine lv_iload_n hx hb dX0_gives_80 rfl (lv_at hl 1 rfl) ?_
  refine n_iald (v := nI (S.wnt q0)) hx hb hK hP 6 0 rfl rfl (j := q0) (by omega) (by decide) (hO1.wnt q0 (by omega)) dX0_gives_81 ?_
  refine n_icmp_lt (tgt := 109) hx hb dX0_gives_82 (by decide) (by omega) (by omega) (fun h5 => ?_) (fun h5 => ?_)
  · refine lv_iinc (v := nI (i + 1)) (lv' := [(4, .int (nI (i + 1))), (0, .ref (c 0)), (1, .int (nI q0)), (2, .int (nI tk)), (3, .int (nI mm))]) hx hb dX0_gives_109 hl (k := 4) rfl (nI_inc _) (by decide) rfl (fun ls hl => ?_)
    refine lv_goto (tgt := 43) hx hb dX0_gives_112 (by decide) ?_
    exact ih (i + 1, G, B, g1, vg) (⟨by dsimp only; omega, hG, hg1, hL.skip (okC_lt h5), hvg⟩) (by dsimp only; omega) ls _ _ (lv_sub hl [1, 2, 3, 4, 0] rfl) hP hD hS
  refine lv_aload_n hx hb dX0_gives_85 rfl (lv_at hl 0 rfl) ?_
  refine va_get (D := D) (ci := 0) (v := .ref (c 14)) (C := RX0) (T := TX0) (N := 19) hx hb hts in_X0 hown hK hP 0 rfl rfl 11 (by decide) (hts _ q502) (fun _ h9 => h9) rfl dX0_gives_86 ?_
  refine lv_iload_n hx hb dX0_gives_89 rfl (lv_at hl 1 rfl) ?_
  refine lv_iload hx hb dX0_gives_90 (lv_at hl 4 rfl) ?_
  refine n_iast hx hb hK hP hD hS 14 0 rfl rfl (j := q0) (by omega) (by decide) dX0_gives_92 (fun H locs hP hD hS => ?_)
  have hP : va_P D kcl (cellsX y c (((J.aBest' B).kMostG' vg).aGiven' (upd G q0 (nI i)))) H := hP
  have hD : va_D (XA c) (cellsX y c (((J.aBest' B).kMostG' vg).aGiven' (upd G q0 (nI i)))) := hD
  refine lv_aload_n hx hb dX0_gives_93 rfl (lv_at hl 0 rfl) ?_
  refine lv_iload_n hx hb dX0_gives_94 rfl (lv_at hl 1 rfl) ?_
  refine lv_iconst (v := nI 1) hx hb dX0_gives_95 (by decide) ?_
  refine n_add hx hb dX0_gives_96 ?_
  refine lv_iload_n hx hb dX0_gives_97 rfl (lv_at hl 2 rfl) ?_
  refine lv_iconst (v := nI 1) hx hb dX0_gives_98 (by decide) ?_
  refine lv_iload hx hb dX0_gives_99 (lv_at hl 4 rfl) ?_
  refine n_shl1 hx hb dX0_gives_101 (by omega) ?_
  refine n_or hx hb dX0_gives_102 ?_
  refine lv_iload_n hx hb dX0_gives_103 rfl (lv_at hl 3 rfl) ?_
  refine lv_iconst (v := nI 1) hx hb dX0_gives_104 (by decide) ?_
  refine n_add hx hb dX0_gives_105 ?_
  have hP : va_P D kcl (cellsX y c (((J.aGiven' (upd G q0 (nI i))).aBest' B).kMostG' vg)) H := hP
  have hD : va_D (XA c) (cellsX y c (((J.aGiven' (upd G q0 (nI i))).aBest' B).kMostG' vg)) := hD
  have hO2 := XOk.car hO (upd G q0 (nI i)) B vg
  refine h_callv (va_runV (As := [.int (nI (q0 + 1)), .int (nI (tk ||| (2 ^ i))), .int (nI (mm + 1))]) (rest := []) ⟨hx, hb, hml, hown, hts⟩ (m_X0_gives1 l D y c (((J.aGiven' (upd G q0 (nI i))).aBest' B).kMostG' vg) S hI hO2 (q0 + 1) (tk ||| 2 ^ i) (mm + 1) g1 (by omega) (Nat.or_lt_two_pow htk (Nat.pow_lt_pow_right (by omega) (by omega))) (by omega) hg1 (car_k.trans hvg)) (cwV 3 hts (lw_V q729 q731 qs25 q54 q732) rfl rfl rfl ⟨rfl, hd_X0_gives⟩ ⟨Nat.le_of_ble_eq_true rfl, Nat.le_of_ble_eq_true rfl⟩) (preVH hC hP hD 0 0 rfl rfl) rfl rfl hl.1 rfl (lv_room (Nat.le_of_ble_eq_true rfl)) dX0_gives_106 ⟨Nat.le_of_ble_eq_true rfl, Nat.le_of_ble_eq_true rfl⟩) hS (fun J2 H locs hp2 hP hD hS => ?_)
  have hP : va_P D kcl (cellsX y c J2) H := hP
  have hD : va_D (XA c) (cellsX y c J2) := hD
  obtain ⟨G2, B2, g2, v2, e2, hv2, hG2, hR⟩ := hp2
  rw [car_car] at e2
  rw [car_g] at hG2 hR
  rw [car_b] at hR
  subst e2
  refine lv_iinc (v := nI (i + 1)) (lv' := [(4, .int (nI (i + 1))), (0, .ref (c 0)), (1, .int (nI q0)), (2, .int (nI tk)), (3, .int (nI mm))]) hx hb dX0_gives_109 hl (k := 4) rfl (nI_inc _) (by decide) rfl (fun ls hl => ?_)
  refine lv_goto (tgt := 43) hx hb dX0_gives_112 (by decide) ?_
  exact ih (i + 1, G2, B2, g2, v2) (⟨by dsimp only; omega, fun k hk => (hG2 k (by omega)).trans ((pk_un (by omega)).trans (hG k hk)), hR.le (by omega) (by omega) hg1, hL.try (okC_ok h4 (by omega)) (fun k hk => (pk_un (by omega)).trans (hG k hk)) pk_us hR, hv2⟩) (by dsimp only; omega) ls _ _ (lv_sub hl [1, 2, 3, 4, 0] rfl) hP hD hS
/-- X0_gives -/
theorem m_X0_gives3 (l : Launch) (D : va_G) (y : Nat → ClassId) (c : Nat → Nat) (J : XJ) (S : St) (hI : StOk S) (hO : XOk S J) (q0 tk mm g : Nat) (hp : q0 + 3 = S.ppl) (htk : tk < 2 ^ S.str) (hm : mm ≤ q0) (hg : g ≤ 7) (hkg : J.kMostG = dn g) : Met l yX0_gives (ws_ yX0_gives cX0_gives 5 none) ({ frames := 4, cells := 0, slots := 0, locals := 192 }) (va_Pc [.ref (c 0), .int (nI q0), .int (nI tk), .int (nI mm)] (WH D y (XA c) (cellsX y c J))) (va_Qv (fun (J' : XJ) => ∃ G' B' g' v', J' = ((J.aGiven' G').aBest' B').kMostG' v' ∧ v' = dn g' ∧ (∀ i, i < q0 → G' i = J.aGiven i) ∧ GvR S 3 q0 tk mm g J.aGiven J.aBest g' B') (fun (J' : XJ) t => WH D y (XA c) (cellsX y c J') t) (XA c)) 0 0 (XA c) := by
  refine x_start (by decide) (Nat.le_of_ble_eq_true rfl) ?_
  intro p e s m below meth cd ls hx hb hr hts hml hown hlocks hnm hB hl
  have hC := hB.1
  obtain ⟨⟨hK, hN⟩, hP, hD⟩ := hB
  have hS : va_S (XA c) s.heap s.heap [] := va_S.rf
  have hown : s.vm.findClass RX0 = some m.cls := hown
  have hl : lv_has ls 5 [(0, .ref (c 0)), (1, .int (nI q0)), (2, .int (nI tk)), (3, .int (nI mm))] := hl
  have i1 := hI.str
  have i2 := hI.ppl
  have t1 : 2 ^ S.str ≤ 2 ^ 9 := Nat.pow_le_pow_right (by omega) i1
  refine lv_iload_n hx hb dX0_gives_0 rfl (lv_at hl 1 rfl) ?_
  refine lv_aload_n hx hb dX0_gives_1 rfl (lv_at hl 0 rfl) ?_
  refine va_get (D := D) (ci := 0) (v := .ref (c 1)) (C := RX0) (T := TX0) (N := 19) hx hb hts in_X0 hown hK hP 0 rfl rfl 0 (by decide) (hts _ q485) (fun _ h9 => h9) rfl dX0_gives_2 ?_
  refine va_getN (D := D) (ci := 1) (v := .int (nI S.ppl)) (C := RX1) (T := TX1) (N := 8) hx hb hts in_X1 hown hK hP 1 rfl rfl 5 (by decide) (va_Nw.use rfl (hN _ q335 rfl)) (fun _ h9 => h9) (sv hO.ppl) dX0_gives_5 ?_
  refine n_icmp_ne (tgt := 40) hx hb dX0_gives_8 (by decide) (by omega) (by omega) (fun h1 => ?_) (fun h1 => ?_)
  rotate_left
  · exfalso; omega
  have i3 := hI.wnt q0 (by omega)
  have hP : va_P D kcl (cellsX y c (((J.aGiven' J.aGiven).aBest' J.aBest).kMostG' J.kMostG)) s.heap := by rw [car_id]; exact hP
  have hD : va_D (XA c) (cellsX y c (((J.aGiven' J.aGiven).aBest' J.aBest).kMostG' J.kMostG)) := by rw [car_id]; exact hD
  refine lv_iconst (v := nI 0) hx hb dX0_gives_40 (by decide) ?_
  refine lv_istore (lv' := [(4, .int (nI 0)), (0, .ref (c 0)), (1, .int (nI q0)), (2, .int (nI tk)), (3, .int (nI mm))]) hx hb dX0_gives_41 hl (by decide) rfl (fun ls hl => ?_)
  refine w_loopH (α := Nat × (Nat → Int32) × (Nat → Int32) × Nat × Int32) (nL := 5) 43 (fun a_ => [(0, .ref (c 0)), (1, .int (nI q0)), (2, .int (nI tk)), (3, .int (nI mm)), (4, .int (nI a_.1))]) (fun a_ => cellsX y c (((J.aGiven' a_.2.1).aBest' a_.2.2.1).kMostG' a_.2.2.2.2)) (fun a_ => a_.1 ≤ S.str ∧ (∀ k, k < q0 → a_.2.1 k = J.aGiven k) ∧ a_.2.2.2.1 ≤ 7 ∧ GvL S 2 q0 tk mm g J.aGiven J.aBest a_.1 a_.2.2.2.1 a_.2.2.1 ∧ a_.2.2.2.2 = dn a_.2.2.2.1) (fun a_ => S.str - a_.1) ?_ (0, J.aGiven, J.aBest, g, J.kMostG) (⟨Nat.zero_le _, fun k _ => rfl, hg, GvL.zero, hkg⟩) ls _ _ (lv_sub hl [1, 2, 3, 4, 0] rfl) hP hD hS
  rintro ⟨i, G, B, g1, vg⟩ hi ih ls H locs hl hP hD hS
  have hP : va_P D kcl (cellsX y c (((J.aGiven' G).aBest' B).kMostG' vg)) H := hP
  have hD : va_D (XA c) (cellsX y c (((J.aGiven' G).aBest' B).kMostG' vg)) := hD
  have hi : i ≤ S.str ∧ (∀ k, k < q0 → G k = J.aGiven k) ∧ g1 ≤ 7 ∧ GvL S 2 q0 tk mm g J.aGiven J.aBest i g1 B ∧ vg = dn g1 := hi
  have hl : lv_has ls 5 [(0, .ref (c 0)), (1, .int (nI q0)), (2, .int (nI tk)), (3, .int (nI mm)), (4, .int (nI i))] := hl
  obtain ⟨hi1, hG, hg1, hL, hvg⟩ := hi
  have hO1 := XOk.car hO G B vg
  refine lv_iload hx hb dX0_gives_43 (lv_at hl 4 rfl) ?_
  refine lv_aload_n hx hb dX0_gives_45 rfl (lv_at hl 0 rfl) ?_
  refine va_get (D := D) (ci := 0) (v := .ref (c 1)) (C := RX0) (T := TX0) (N := 19) hx hb hts in_X0 hown hK hP 0 rfl rfl 0 (by decide) (hts _ q485) (fun _ h9 => h9) rfl dX0_gives_46 ?_
  refine va_getN (D := D) (ci := 1) (v := .int (nI S.str)) (C := RX1) (T := TX1) (N := 8) hx hb hts in_X1 hown hK hP 1 rfl rfl 1 (by decide) (va_Nw.use rfl (hN _ q322 rfl)) (fun _ h9 => h9) (sv hO1.str) dX0_gives_49 ?_
  refine n_icmp_ge (tgt := 115) hx hb dX0_gives_52 (by decide) (by omega) (by omega) (fun h3 => ?_) (fun h3 => ?_)
  · have ei : i = S.str := by omega
    rw [ei] at hL
    refine lv_aload_n hx hb dX0_gives_115 rfl (lv_at hl 0 rfl) ?_
    refine va_get (D := D) (ci := 0) (v := .ref (c 14)) (C := RX0) (T := TX0) (N := 19) hx hb hts in_X0 hown hK hP 0 rfl rfl 11 (by decide) (hts _ q502) (fun _ h9 => h9) rfl dX0_gives_116 ?_
    refine lv_iload_n hx hb dX0_gives_119 rfl (lv_at hl 1 rfl) ?_
    refine lv_bipush (v := (-9)) hx hb dX0_gives_120 (by decide) ?_
    refine n_iast hx hb hK hP hD hS 14 0 rfl rfl (j := q0) (by omega) (by decide) dX0_gives_122 (fun H locs hP hD hS => ?_)
    have hP : va_P D kcl (cellsX y c (((J.aBest' B).kMostG' vg).aGiven' (upd G q0 (-9)))) H := hP
    have hD : va_D (XA c) (cellsX y c (((J.aBest' B).kMostG' vg).aGiven' (upd G q0 (-9)))) := hD
    refine lv_aload_n hx hb dX0_gives_123 rfl (lv_at hl 0 rfl) ?_
    refine lv_iload_n hx hb dX0_gives_124 rfl (lv_at hl 1 rfl) ?_
    refine lv_iconst (v := nI 1) hx hb dX0_gives_125 (by decide) ?_
    refine n_add hx hb dX0_gives_126 ?_
    refine lv_iload_n hx hb dX0_gives_127 rfl (lv_at hl 2 rfl) ?_
    refine lv_iload_n hx hb dX0_gives_128 rfl (lv_at hl 3 rfl) ?_
    have hP : va_P D kcl (cellsX y c (((J.aGiven' (upd G q0 (-9))).aBest' B).kMostG' vg)) H := hP
    have hD : va_D (XA c) (cellsX y c (((J.aGiven' (upd G q0 (-9))).aBest' B).kMostG' vg)) := hD
    have hO2 := XOk.car hO (upd G q0 (-9)) B vg
    refine h_callv (va_runV (As := [.int (nI (q0 + 1)), .int (nI tk), .int (nI mm)]) (rest := []) ⟨hx, hb, hml, hown, hts⟩ (m_X0_gives2 l D y c (((J.aGiven' (upd G q0 (-9))).aBest' B).kMostG' vg) S hI hO2 (q0 + 1) tk mm g1 (by omega) htk (by omega) hg1 (car_k.trans hvg)) (cwV 3 hts (lw_V q729 q731 qs25 q54 q732) rfl rfl rfl ⟨rfl, hd_X0_gives⟩ ⟨Nat.le_of_ble_eq_true rfl, Nat.le_of_ble_eq_true rfl⟩) (preVH hC hP hD 0 0 rfl rfl) rfl rfl hl.1 rfl (lv_room (Nat.le_of_ble_eq_true rfl)) dX0_gives_129 ⟨Nat.le_of_ble_eq_true rfl, Nat.le_of_ble_eq_true rfl⟩) hS (fun J2 H locs hp2 hP hD hS => ?_)
    have hP : va_P D kcl (cellsX y c J2) H := hP
    have hD : va_D (XA c) (cellsX y c J2) := hD
    obtain ⟨G2, B2, g2, v2, e2, hv2, hG2, hR⟩ := hp2
    rw [car_car] at e2
    rw [car_g] at hG2 hR
    rw [car_b] at hR
    subst e2
    exact h_vret (V := fun J' => cellsX y c J') (((J.aGiven' G2).aBest' B2).kMostG' v2) hx hb hr hlocks hC hP hD hS (⟨G2, B2, g2, v2, rfl, hv2, fun k hk => (hG2 k (by omega)).trans ((pk_un (by omega)).trans (hG k hk)), hL.end (fun k hk => (pk_un (by omega)).trans (hG k hk)) pk_us hR⟩) dX0_gives_132
  refine lv_iload_n hx hb dX0_gives_55 rfl (lv_at hl 2 rfl) ?_
  refine lv_iload hx hb dX0_gives_56 (lv_at hl 4 rfl) ?_
  refine va_callR (va_runS (As := [.int (nI tk), .int (nI i)]) (rest := []) ⟨hx, hb, hml, hown, hts⟩ (m_X0_has l tk i (by omega) (by omega)) (va_cwS 2 hts (lw_S q634 q635 q54 q636) rfl rfl rfl hd_X0_has ⟨Nat.le_of_ble_eq_true rfl, Nat.le_of_ble_eq_true rfl⟩) pre0 rfl rfl hl.1 rfl (lv_room (Nat.le_of_ble_eq_true rfl)) dX0_gives_58 ⟨Nat.le_of_ble_eq_true rfl, Nat.le_of_ble_eq_true rfl⟩) ?_
  refine z_if_ne (tgt := 109) hx hb dX0_gives_61 (by decide) (fun h4 => ?_) (fun h4 => ?_)
  · refine lv_iinc (v := nI (i + 1)) (lv' := [(4, .int (nI (i + 1))), (0, .ref (c 0)), (1, .int (nI q0)), (2, .int (nI tk)), (3, .int (nI mm))]) hx hb dX0_gives_109 hl (k := 4) rfl (nI_inc _) (by decide) rfl (fun ls hl => ?_)
    refine lv_goto (tgt := 43) hx hb dX0_gives_112 (by decide) ?_
    exact ih (i + 1, G, B, g1, vg) (⟨by dsimp only; omega, hG, hg1, hL.skip (okC_has h4), hvg⟩) (by dsimp only; omega) ls _ _ (lv_sub hl [1, 2, 3, 4, 0] rfl) hP hD hS
  have i4 := wid_le hI.now (show i < S.str by omega)
  refine lv_aload_n hx hb dX0_gives_64 rfl (lv_at hl 0 rfl) ?_
  refine va_get (D := D) (ci := 0) (v := .ref (c 7)) (C := RX0) (T := TX0) (N := 19) hx hb hts in_X0 hown hK hP 0 rfl rfl 5 (by decide) (hts _ q496) (fun _ h9 => h9) rfl dX0_gives_65 ?_
  refine lv_iload hx hb dX0_gives_68 (lv_at hl 4 rfl) ?_
  refine va_callR (va_runV (As := [.int (nI i)]) (rest := []) ⟨hx, hb, hml, hown, hts⟩ (m_X3_width l D y c (((J.aGiven' G).aBest' B).kMostG' vg) S hI hO1 i (by omega)) (cwV 1 hts (lw_V q563 q564 q565 q57 q566) rfl rfl rfl ⟨rfl, hd_X3_width⟩ ⟨Nat.le_of_ble_eq_true rfl, Nat.le_of_ble_eq_true rfl⟩) (preVR hC hP 3 7 rfl rfl) rfl rfl hl.1 rfl (lv_room (Nat.le_of_ble_eq_true rfl)) dX0_gives_70 ⟨Nat.le_of_ble_eq_true rfl, Nat.le_of_ble_eq_true rfl⟩) ?_
  refine lv_aload_n hx hb dX0_gives_73 rfl (lv_at hl 0 rfl) ?_
  refine va_get (D := D) (ci := 0) (v := .ref (c 1)) (C := RX0) (T := TX0) (N := 19) hx hb hts in_X0 hown hK hP 0 rfl rfl 0 (by decide) (hts _ q485) (fun _ h9 => h9) rfl dX0_gives_74 ?_
  refine va_getN (D := D) (ci := 1) (v := .ref (c 6)) (C := RX1) (T := TX1) (N := 8) hx hb hts in_X1 hown hK hP 1 rfl rfl 7 (by decide) (va_Nw.use rfl (hN _ q341 rfl)) (fun _ h9 => h9) rfl dX0_gives_77 ?_
  refine lv_iload_n hx hb dX0_gives_80 rfl (lv_at hl 1 rfl) ?_
  refine n_iald (v := nI (S.wnt q0)) hx hb hK hP 6 0 rfl rfl (j := q0) (by omega) (by decide) (hO1.wnt q0 (by omega)) dX0_gives_81 ?_
  refine n_icmp_lt (tgt := 109) hx hb dX0_gives_82 (by decide) (by omega) (by omega) (fun h5 => ?_) (fun h5 => ?_)
  · refine lv_iinc (v := nI (i + 1)) (lv' := [(4, .int (nI (i + 1))), (0, .ref (c 0)), (1, .int (nI q0)), (2, .int (nI tk)), (3, .int (nI mm))]) hx hb dX0_gives_109 hl (k := 4) rfl (nI_inc _) (by decide) rfl (fun ls hl => ?_)
    refine lv_goto (tgt := 43) hx hb dX0_gives_112 (by decide) ?_
    exact ih (i + 1, G, B, g1, vg) (⟨by dsimp only; omega, hG, hg1, hL.skip (okC_lt h5), hvg⟩) (by dsimp only; omega) ls _ _ (lv_sub hl [1, 2, 3, 4, 0] rfl) hP hD hS
  refine lv_aload_n hx hb dX0_gives_85 rfl (lv_at hl 0 rfl) ?_
  refine va_get (D := D) (ci := 0) (v := .ref (c 14)) (C := RX0) (T := TX0) (N := 19) hx hb hts in_X0 hown hK hP 0 rfl rfl 11 (by decide) (hts _ q502) (fun _ h9 => h9) rfl dX0_gives_86 ?_
  refine lv_iload_n hx hb dX0_gives_89 rfl (lv_at hl 1 rfl) ?_
  refine lv_iload hx hb dX0_gives_90 (lv_at hl 4 rfl) ?_
  refine n_iast hx hb hK hP hD hS 14 0 rfl rfl (j := q0) (by omega) (by decide) dX0_gives_92 (fun H locs hP hD hS => ?_)
  have hP : va_P D kcl (cellsX y c (((J.aBest' B).kMostG' vg).aGiven' (upd G q0 (nI i)))) H := hP
  have hD : va_D (XA c) (cellsX y c (((J.aBest' B).kMostG' vg).aGiven' (upd G q0 (nI i)))) := hD
  refine lv_aload_n hx hb dX0_gives_93 rfl (lv_at hl 0 rfl) ?_
  refine lv_iload_n hx hb dX0_gives_94 rfl (lv_at hl 1 rfl) ?_
  refine lv_iconst (v := nI 1) hx hb dX0_gives_95 (by decide) ?_
  refine n_add hx hb dX0_gives_96 ?_
  refine lv_iload_n hx hb dX0_gives_97 rfl (lv_at hl 2 rfl) ?_
  refine lv_iconst (v := nI 1) hx hb dX0_gives_98 (by decide) ?_
  refine lv_iload hx hb dX0_gives_99 (lv_at hl 4 rfl) ?_
  refine n_shl1 hx hb dX0_gives_101 (by omega) ?_
  refine n_or hx hb dX0_gives_102 ?_
  refine lv_iload_n hx hb dX0_gives_103 rfl (lv_at hl 3 rfl) ?_
  refine lv_iconst (v := nI 1) hx hb dX0_gives_104 (by decide) ?_
  refine n_add hx hb dX0_gives_105 ?_
  have hP : va_P D kcl (cellsX y c (((J.aGiven' (upd G q0 (nI i))).aBest' B).kMostG' vg)) H := hP
  have hD : va_D (XA c) (cellsX y c (((J.aGiven' (upd G q0 (nI i))).aBest' B).kMostG' vg)) := hD
  have hO2 := XOk.car hO (upd G q0 (nI i)) B vg
  refine h_callv (va_runV (As := [.int (nI (q0 + 1)), .int (nI (tk ||| (2 ^ i))), .int (nI (mm + 1))]) (rest := []) ⟨hx, hb, hml, hown, hts⟩ (m_X0_gives2 l D y c (((J.aGiven' (upd G q0 (nI i))).aBest' B).kMostG' vg) S hI hO2 (q0 + 1) (tk ||| 2 ^ i) (mm + 1) g1 (by omega) (Nat.or_lt_two_pow htk (Nat.pow_lt_pow_right (by omega) (by omega))) (by omega) hg1 (car_k.trans hvg)) (cwV 3 hts (lw_V q729 q731 qs25 q54 q732) rfl rfl rfl ⟨rfl, hd_X0_gives⟩ ⟨Nat.le_of_ble_eq_true rfl, Nat.le_of_ble_eq_true rfl⟩) (preVH hC hP hD 0 0 rfl rfl) rfl rfl hl.1 rfl (lv_room (Nat.le_of_ble_eq_true rfl)) dX0_gives_106 ⟨Nat.le_of_ble_eq_true rfl, Nat.le_of_ble_eq_true rfl⟩) hS (fun J2 H locs hp2 hP hD hS => ?_)
  have hP : va_P D kcl (cellsX y c J2) H := hP
  have hD : va_D (XA c) (cellsX y c J2) := hD
  obtain ⟨G2, B2, g2, v2, e2, hv2, hG2, hR⟩ := hp2
  rw [car_car] at e2
  rw [car_g] at hG2 hR
  rw [car_b] at hR
  subst e2
  refine lv_iinc (v := nI (i + 1)) (lv' := [(4, .int (nI (i + 1))), (0, .ref (c 0)), (1, .int (nI q0)), (2, .int (nI tk)), (3, .int (nI mm))]) hx hb dX0_gives_109 hl (k := 4) rfl (nI_inc _) (by decide) rfl (fun ls hl => ?_)
  refine lv_goto (tgt := 43) hx hb dX0_gives_112 (by decide) ?_
  exact ih (i + 1, G2, B2, g2, v2) (⟨by dsimp only; omega, fun k hk => (hG2 k (by omega)).trans ((pk_un (by omega)).trans (hG k hk)), hR.le (by omega) (by omega) hg1, hL.try (okC_ok h4 (by omega)) (fun k hk => (pk_un (by omega)).trans (hG k hk)) pk_us hR, hv2⟩) (by dsimp only; omega) ls _ _ (lv_sub hl [1, 2, 3, 4, 0] rfl) hP hD hS
/-- X0_gives -/
theorem m_X0_gives4 (l : Launch) (D : va_G) (y : Nat → ClassId) (c : Nat → Nat) (J : XJ) (S : St) (hI : StOk S) (hO : XOk S J) (q0 tk mm g : Nat) (hp : q0 + 4 = S.ppl) (htk : tk < 2 ^ S.str) (hm : mm ≤ q0) (hg : g ≤ 7) (hkg : J.kMostG = dn g) : Met l yX0_gives (ws_ yX0_gives cX0_gives 5 none) ({ frames := 5, cells := 0, slots := 0, locals := 216 }) (va_Pc [.ref (c 0), .int (nI q0), .int (nI tk), .int (nI mm)] (WH D y (XA c) (cellsX y c J))) (va_Qv (fun (J' : XJ) => ∃ G' B' g' v', J' = ((J.aGiven' G').aBest' B').kMostG' v' ∧ v' = dn g' ∧ (∀ i, i < q0 → G' i = J.aGiven i) ∧ GvR S 4 q0 tk mm g J.aGiven J.aBest g' B') (fun (J' : XJ) t => WH D y (XA c) (cellsX y c J') t) (XA c)) 0 0 (XA c) := by
  refine x_start (by decide) (Nat.le_of_ble_eq_true rfl) ?_
  intro p e s m below meth cd ls hx hb hr hts hml hown hlocks hnm hB hl
  have hC := hB.1
  obtain ⟨⟨hK, hN⟩, hP, hD⟩ := hB
  have hS : va_S (XA c) s.heap s.heap [] := va_S.rf
  have hown : s.vm.findClass RX0 = some m.cls := hown
  have hl : lv_has ls 5 [(0, .ref (c 0)), (1, .int (nI q0)), (2, .int (nI tk)), (3, .int (nI mm))] := hl
  have i1 := hI.str
  have i2 := hI.ppl
  have t1 : 2 ^ S.str ≤ 2 ^ 9 := Nat.pow_le_pow_right (by omega) i1
  refine lv_iload_n hx hb dX0_gives_0 rfl (lv_at hl 1 rfl) ?_
  refine lv_aload_n hx hb dX0_gives_1 rfl (lv_at hl 0 rfl) ?_
  refine va_get (D := D) (ci := 0) (v := .ref (c 1)) (C := RX0) (T := TX0) (N := 19) hx hb hts in_X0 hown hK hP 0 rfl rfl 0 (by decide) (hts _ q485) (fun _ h9 => h9) rfl dX0_gives_2 ?_
  refine va_getN (D := D) (ci := 1) (v := .int (nI S.ppl)) (C := RX1) (T := TX1) (N := 8) hx hb hts in_X1 hown hK hP 1 rfl rfl 5 (by decide) (va_Nw.use rfl (hN _ q335 rfl)) (fun _ h9 => h9) (sv hO.ppl) dX0_gives_5 ?_
  refine n_icmp_ne (tgt := 40) hx hb dX0_gives_8 (by decide) (by omega) (by omega) (fun h1 => ?_) (fun h1 => ?_)
  rotate_left
  · exfalso; omega
  have i3 := hI.wnt q0 (by omega)
  have hP : va_P D kcl (cellsX y c (((J.aGiven' J.aGiven).aBest' J.aBest).kMostG' J.kMostG)) s.heap := by rw [car_id]; exact hP
  have hD : va_D (XA c) (cellsX y c (((J.aGiven' J.aGiven).aBest' J.aBest).kMostG' J.kMostG)) := by rw [car_id]; exact hD
  refine lv_iconst (v := nI 0) hx hb dX0_gives_40 (by decide) ?_
  refine lv_istore (lv' := [(4, .int (nI 0)), (0, .ref (c 0)), (1, .int (nI q0)), (2, .int (nI tk)), (3, .int (nI mm))]) hx hb dX0_gives_41 hl (by decide) rfl (fun ls hl => ?_)
  refine w_loopH (α := Nat × (Nat → Int32) × (Nat → Int32) × Nat × Int32) (nL := 5) 43 (fun a_ => [(0, .ref (c 0)), (1, .int (nI q0)), (2, .int (nI tk)), (3, .int (nI mm)), (4, .int (nI a_.1))]) (fun a_ => cellsX y c (((J.aGiven' a_.2.1).aBest' a_.2.2.1).kMostG' a_.2.2.2.2)) (fun a_ => a_.1 ≤ S.str ∧ (∀ k, k < q0 → a_.2.1 k = J.aGiven k) ∧ a_.2.2.2.1 ≤ 7 ∧ GvL S 3 q0 tk mm g J.aGiven J.aBest a_.1 a_.2.2.2.1 a_.2.2.1 ∧ a_.2.2.2.2 = dn a_.2.2.2.1) (fun a_ => S.str - a_.1) ?_ (0, J.aGiven, J.aBest, g, J.kMostG) (⟨Nat.zero_le _, fun k _ => rfl, hg, GvL.zero, hkg⟩) ls _ _ (lv_sub hl [1, 2, 3, 4, 0] rfl) hP hD hS
  rintro ⟨i, G, B, g1, vg⟩ hi ih ls H locs hl hP hD hS
  have hP : va_P D kcl (cellsX y c (((J.aGiven' G).aBest' B).kMostG' vg)) H := hP
  have hD : va_D (XA c) (cellsX y c (((J.aGiven' G).aBest' B).kMostG' vg)) := hD
  have hi : i ≤ S.str ∧ (∀ k, k < q0 → G k = J.aGiven k) ∧ g1 ≤ 7 ∧ GvL S 3 q0 tk mm g J.aGiven J.aBest i g1 B ∧ vg = dn g1 := hi
  have hl : lv_has ls 5 [(0, .ref (c 0)), (1, .int (nI q0)), (2, .int (nI tk)), (3, .int (nI mm)), (4, .int (nI i))] := hl
  obtain ⟨hi1, hG, hg1, hL, hvg⟩ := hi
  have hO1 := XOk.car hO G B vg
  refine lv_iload hx hb dX0_gives_43 (lv_at hl 4 rfl) ?_
  refine lv_aload_n hx hb dX0_gives_45 rfl (lv_at hl 0 rfl) ?_
  refine va_get (D := D) (ci := 0) (v := .ref (c 1)) (C := RX0) (T := TX0) (N := 19) hx hb hts in_X0 hown hK hP 0 rfl rfl 0 (by decide) (hts _ q485) (fun _ h9 => h9) rfl dX0_gives_46 ?_
  refine va_getN (D := D) (ci := 1) (v := .int (nI S.str)) (C := RX1) (T := TX1) (N := 8) hx hb hts in_X1 hown hK hP 1 rfl rfl 1 (by decide) (va_Nw.use rfl (hN _ q322 rfl)) (fun _ h9 => h9) (sv hO1.str) dX0_gives_49 ?_
  refine n_icmp_ge (tgt := 115) hx hb dX0_gives_52 (by decide) (by omega) (by omega) (fun h3 => ?_) (fun h3 => ?_)
  · have ei : i = S.str := by omega
    rw [ei] at hL
    refine lv_aload_n hx hb dX0_gives_115 rfl (lv_at hl 0 rfl) ?_
    refine va_get (D := D) (ci := 0) (v := .ref (c 14)) (C := RX0) (T := TX0) (N := 19) hx hb hts in_X0 hown hK hP 0 rfl rfl 11 (by decide) (hts _ q502) (fun _ h9 => h9) rfl dX0_gives_116 ?_
    refine lv_iload_n hx hb dX0_gives_119 rfl (lv_at hl 1 rfl) ?_
    refine lv_bipush (v := (-9)) hx hb dX0_gives_120 (by decide) ?_
    refine n_iast hx hb hK hP hD hS 14 0 rfl rfl (j := q0) (by omega) (by decide) dX0_gives_122 (fun H locs hP hD hS => ?_)
    have hP : va_P D kcl (cellsX y c (((J.aBest' B).kMostG' vg).aGiven' (upd G q0 (-9)))) H := hP
    have hD : va_D (XA c) (cellsX y c (((J.aBest' B).kMostG' vg).aGiven' (upd G q0 (-9)))) := hD
    refine lv_aload_n hx hb dX0_gives_123 rfl (lv_at hl 0 rfl) ?_
    refine lv_iload_n hx hb dX0_gives_124 rfl (lv_at hl 1 rfl) ?_
    refine lv_iconst (v := nI 1) hx hb dX0_gives_125 (by decide) ?_
    refine n_add hx hb dX0_gives_126 ?_
    refine lv_iload_n hx hb dX0_gives_127 rfl (lv_at hl 2 rfl) ?_
    refine lv_iload_n hx hb dX0_gives_128 rfl (lv_at hl 3 rfl) ?_
    have hP : va_P D kcl (cellsX y c (((J.aGiven' (upd G q0 (-9))).aBest' B).kMostG' vg)) H := hP
    have hD : va_D (XA c) (cellsX y c (((J.aGiven' (upd G q0 (-9))).aBest' B).kMostG' vg)) := hD
    have hO2 := XOk.car hO (upd G q0 (-9)) B vg
    refine h_callv (va_runV (As := [.int (nI (q0 + 1)), .int (nI tk), .int (nI mm)]) (rest := []) ⟨hx, hb, hml, hown, hts⟩ (m_X0_gives3 l D y c (((J.aGiven' (upd G q0 (-9))).aBest' B).kMostG' vg) S hI hO2 (q0 + 1) tk mm g1 (by omega) htk (by omega) hg1 (car_k.trans hvg)) (cwV 3 hts (lw_V q729 q731 qs25 q54 q732) rfl rfl rfl ⟨rfl, hd_X0_gives⟩ ⟨Nat.le_of_ble_eq_true rfl, Nat.le_of_ble_eq_true rfl⟩) (preVH hC hP hD 0 0 rfl rfl) rfl rfl hl.1 rfl (lv_room (Nat.le_of_ble_eq_true rfl)) dX0_gives_129 ⟨Nat.le_of_ble_eq_true rfl, Nat.le_of_ble_eq_true rfl⟩) hS (fun J2 H locs hp2 hP hD hS => ?_)
    have hP : va_P D kcl (cellsX y c J2) H := hP
    have hD : va_D (XA c) (cellsX y c J2) := hD
    obtain ⟨G2, B2, g2, v2, e2, hv2, hG2, hR⟩ := hp2
    rw [car_car] at e2
    rw [car_g] at hG2 hR
    rw [car_b] at hR
    subst e2
    exact h_vret (V := fun J' => cellsX y c J') (((J.aGiven' G2).aBest' B2).kMostG' v2) hx hb hr hlocks hC hP hD hS (⟨G2, B2, g2, v2, rfl, hv2, fun k hk => (hG2 k (by omega)).trans ((pk_un (by omega)).trans (hG k hk)), hL.end (fun k hk => (pk_un (by omega)).trans (hG k hk)) pk_us hR⟩) dX0_gives_132
  refine lv_iload_n hx hb dX0_gives_55 rfl (lv_at hl 2 rfl) ?_
  refine lv_iload hx hb dX0_gives_56 (lv_at hl 4 rfl) ?_
  refine va_callR (va_runS (As := [.int (nI tk), .int (nI i)]) (rest := []) ⟨hx, hb, hml, hown, hts⟩ (m_X0_has l tk i (by omega) (by omega)) (va_cwS 2 hts (lw_S q634 q635 q54 q636) rfl rfl rfl hd_X0_has ⟨Nat.le_of_ble_eq_true rfl, Nat.le_of_ble_eq_true rfl⟩) pre0 rfl rfl hl.1 rfl (lv_room (Nat.le_of_ble_eq_true rfl)) dX0_gives_58 ⟨Nat.le_of_ble_eq_true rfl, Nat.le_of_ble_eq_true rfl⟩) ?_
  refine z_if_ne (tgt := 109) hx hb dX0_gives_61 (by decide) (fun h4 => ?_) (fun h4 => ?_)
  · refine lv_iinc (v := nI (i + 1)) (lv' := [(4, .int (nI (i + 1))), (0, .ref (c 0)), (1, .int (nI q0)), (2, .int (nI tk)), (3, .int (nI mm))]) hx hb dX0_gives_109 hl (k := 4) rfl (nI_inc _) (by decide) rfl (fun ls hl => ?_)
    refine lv_goto (tgt := 43) hx hb dX0_gives_112 (by decide) ?_
    exact ih (i + 1, G, B, g1, vg) (⟨by dsimp only; omega, hG, hg1, hL.skip (okC_has h4), hvg⟩) (by dsimp only; omega) ls _ _ (lv_sub hl [1, 2, 3, 4, 0] rfl) hP hD hS
  have i4 := wid_le hI.now (show i < S.str by omega)
  refine lv_aload_n hx hb dX0_gives_64 rfl (lv_at hl 0 rfl) ?_
  refine va_get (D := D) (ci := 0) (v := .ref (c 7)) (C := RX0) (T := TX0) (N := 19) hx hb hts in_X0 hown hK hP 0 rfl rfl 5 (by decide) (hts _ q496) (fun _ h9 => h9) rfl dX0_gives_65 ?_
  refine lv_iload hx hb dX0_gives_68 (lv_at hl 4 rfl) ?_
  refine va_callR (va_runV (As := [.int (nI i)]) (rest := []) ⟨hx, hb, hml, hown, hts⟩ (m_X3_width l D y c (((J.aGiven' G).aBest' B).kMostG' vg) S hI hO1 i (by omega)) (cwV 1 hts (lw_V q563 q564 q565 q57 q566) rfl rfl rfl ⟨rfl, hd_X3_width⟩ ⟨Nat.le_of_ble_eq_true rfl, Nat.le_of_ble_eq_true rfl⟩) (preVR hC hP 3 7 rfl rfl) rfl rfl hl.1 rfl (lv_room (Nat.le_of_ble_eq_true rfl)) dX0_gives_70 ⟨Nat.le_of_ble_eq_true rfl, Nat.le_of_ble_eq_true rfl⟩) ?_
  refine lv_aload_n hx hb dX0_gives_73 rfl (lv_at hl 0 rfl) ?_
  refine va_get (D := D) (ci := 0) (v := .ref (c 1)) (C := RX0) (T := TX0) (N := 19) hx hb hts in_X0 hown hK hP 0 rfl rfl 0 (by decide) (hts _ q485) (fun _ h9 => h9) rfl dX0_gives_74 ?_
  refine va_getN (D := D) (ci := 1) (v := .ref (c 6)) (C := RX1) (T := TX1) (N := 8) hx hb hts in_X1 hown hK hP 1 rfl rfl 7 (by decide) (va_Nw.use rfl (hN _ q341 rfl)) (fun _ h9 => h9) rfl dX0_gives_77 ?_
  refine lv_iload_n hx hb dX0_gives_80 rfl (lv_at hl 1 rfl) ?_
  refine n_iald (v := nI (S.wnt q0)) hx hb hK hP 6 0 rfl rfl (j := q0) (by omega) (by decide) (hO1.wnt q0 (by omega)) dX0_gives_81 ?_
  refine n_icmp_lt (tgt := 109) hx hb dX0_gives_82 (by decide) (by omega) (by omega) (fun h5 => ?_) (fun h5 => ?_)
  · refine lv_iinc (v := nI (i + 1)) (lv' := [(4, .int (nI (i + 1))), (0, .ref (c 0)), (1, .int (nI q0)), (2, .int (nI tk)), (3, .int (nI mm))]) hx hb dX0_gives_109 hl (k := 4) rfl (nI_inc _) (by decide) rfl (fun ls hl => ?_)
    refine lv_goto (tgt := 43) hx hb dX0_gives_112 (by decide) ?_
    exact ih (i + 1, G, B, g1, vg) (⟨by dsimp only; omega, hG, hg1, hL.skip (okC_lt h5), hvg⟩) (by dsimp only; omega) ls _ _ (lv_sub hl [1, 2, 3, 4, 0] rfl) hP hD hS
  refine lv_aload_n hx hb dX0_gives_85 rfl (lv_at hl 0 rfl) ?_
  refine va_get (D := D) (ci := 0) (v := .ref (c 14)) (C := RX0) (T := TX0) (N := 19) hx hb hts in_X0 hown hK hP 0 rfl rfl 11 (by decide) (hts _ q502) (fun _ h9 => h9) rfl dX0_gives_86 ?_
  refine lv_iload_n hx hb dX0_gives_89 rfl (lv_at hl 1 rfl) ?_
  refine lv_iload hx hb dX0_gives_90 (lv_at hl 4 rfl) ?_
  refine n_iast hx hb hK hP hD hS 14 0 rfl rfl (j := q0) (by omega) (by decide) dX0_gives_92 (fun H locs hP hD hS => ?_)
  have hP : va_P D kcl (cellsX y c (((J.aBest' B).kMostG' vg).aGiven' (upd G q0 (nI i)))) H := hP
  have hD : va_D (XA c) (cellsX y c (((J.aBest' B).kMostG' vg).aGiven' (upd G q0 (nI i)))) := hD
  refine lv_aload_n hx hb dX0_gives_93 rfl (lv_at hl 0 rfl) ?_
  refine lv_iload_n hx hb dX0_gives_94 rfl (lv_at hl 1 rfl) ?_
  refine lv_iconst (v := nI 1) hx hb dX0_gives_95 (by decide) ?_
  refine n_add hx hb dX0_gives_96 ?_
  refine lv_iload_n hx hb dX0_gives_97 rfl (lv_at hl 2 rfl) ?_
  refine lv_iconst (v := nI 1) hx hb dX0_gives_98 (by decide) ?_
  refine lv_iload hx hb dX0_gives_99 (lv_at hl 4 rfl) ?_
  refine n_shl1 hx hb dX0_gives_101 (by omega) ?_
  refine n_or hx hb dX0_gives_102 ?_
  refine lv_iload_n hx hb dX0_gives_103 rfl (lv_at hl 3 rfl) ?_
  refine lv_iconst (v := nI 1) hx hb dX0_gives_104 (by decide) ?_
  refine n_add hx hb dX0_gives_105 ?_
  have hP : va_P D kcl (cellsX y c (((J.aGiven' (upd G q0 (nI i))).aBest' B).kMostG' vg)) H := hP
  have hD : va_D (XA c) (cellsX y c (((J.aGiven' (upd G q0 (nI i))).aBest' B).kMostG' vg)) := hD
  have hO2 := XOk.car hO (upd G q0 (nI i)) B vg
  refine h_callv (va_runV (As := [.int (nI (q0 + 1)), .int (nI (tk ||| (2 ^ i))), .int (nI (mm + 1))]) (rest := []) ⟨hx, hb, hml, hown, hts⟩ (m_X0_gives3 l D y c (((J.aGiven' (upd G q0 (nI i))).aBest' B).kMostG' vg) S hI hO2 (q0 + 1) (tk ||| 2 ^ i) (mm + 1) g1 (by omega) (Nat.or_lt_two_pow htk (Nat.pow_lt_pow_right (by omega) (by omega))) (by omega) hg1 (car_k.trans hvg)) (cwV 3 hts (lw_V q729 q731 qs25 q54 q732) rfl rfl rfl ⟨rfl, hd_X0_gives⟩ ⟨Nat.le_of_ble_eq_true rfl, Nat.le_of_ble_eq_true rfl⟩) (preVH hC hP hD 0 0 rfl rfl) rfl rfl hl.1 rfl (lv_room (Nat.le_of_ble_eq_true rfl)) dX0_gives_106 ⟨Nat.le_of_ble_eq_true rfl, Nat.le_of_ble_eq_true rfl⟩) hS (fun J2 H locs hp2 hP hD hS => ?_)
  have hP : va_P D kcl (cellsX y c J2) H := hP
  have hD : va_D (XA c) (cellsX y c J2) := hD
  obtain ⟨G2, B2, g2, v2, e2, hv2, hG2, hR⟩ := hp2
  rw [car_car] at e2
  rw [car_g] at hG2 hR
  rw [car_b] at hR
  subst e2
  refine lv_iinc (v := nI (i + 1)) (lv' := [(4, .int (nI (i + 1))), (0, .ref (c 0)), (1, .int (nI q0)), (2, .int (nI tk)), (3, .int (nI mm))]) hx hb dX0_gives_109 hl (k := 4) rfl (nI_inc _) (by decide) rfl (fun ls hl => ?_)
  refine lv_goto (tgt := 43) hx hb dX0_gives_112 (by decide) ?_
  exact ih (i + 1, G2, B2, g2, v2) (⟨by dsimp only; omega, fun k hk => (hG2 k (by omega)).trans ((pk_un (by omega)).trans (hG k hk)), hR.le (by omega) (by omega) hg1, hL.try (okC_ok h4 (by omega)) (fun k hk => (pk_un (by omega)).trans (hG k hk)) pk_us hR, hv2⟩) (by dsimp only; omega) ls _ _ (lv_sub hl [1, 2, 3, 4, 0] rfl) hP hD hS
/-- X0_gives -/
theorem m_X0_gives5 (l : Launch) (D : va_G) (y : Nat → ClassId) (c : Nat → Nat) (J : XJ) (S : St) (hI : StOk S) (hO : XOk S J) (q0 tk mm g : Nat) (hp : q0 + 5 = S.ppl) (htk : tk < 2 ^ S.str) (hm : mm ≤ q0) (hg : g ≤ 7) (hkg : J.kMostG = dn g) : Met l yX0_gives (ws_ yX0_gives cX0_gives 5 none) ({ frames := 6, cells := 0, slots := 0, locals := 240 }) (va_Pc [.ref (c 0), .int (nI q0), .int (nI tk), .int (nI mm)] (WH D y (XA c) (cellsX y c J))) (va_Qv (fun (J' : XJ) => ∃ G' B' g' v', J' = ((J.aGiven' G').aBest' B').kMostG' v' ∧ v' = dn g' ∧ (∀ i, i < q0 → G' i = J.aGiven i) ∧ GvR S 5 q0 tk mm g J.aGiven J.aBest g' B') (fun (J' : XJ) t => WH D y (XA c) (cellsX y c J') t) (XA c)) 0 0 (XA c) := by
  refine x_start (by decide) (Nat.le_of_ble_eq_true rfl) ?_
  intro p e s m below meth cd ls hx hb hr hts hml hown hlocks hnm hB hl
  have hC := hB.1
  obtain ⟨⟨hK, hN⟩, hP, hD⟩ := hB
  have hS : va_S (XA c) s.heap s.heap [] := va_S.rf
  have hown : s.vm.findClass RX0 = some m.cls := hown
  have hl : lv_has ls 5 [(0, .ref (c 0)), (1, .int (nI q0)), (2, .int (nI tk)), (3, .int (nI mm))] := hl
  have i1 := hI.str
  have i2 := hI.ppl
  have t1 : 2 ^ S.str ≤ 2 ^ 9 := Nat.pow_le_pow_right (by omega) i1
  refine lv_iload_n hx hb dX0_gives_0 rfl (lv_at hl 1 rfl) ?_
  refine lv_aload_n hx hb dX0_gives_1 rfl (lv_at hl 0 rfl) ?_
  refine va_get (D := D) (ci := 0) (v := .ref (c 1)) (C := RX0) (T := TX0) (N := 19) hx hb hts in_X0 hown hK hP 0 rfl rfl 0 (by decide) (hts _ q485) (fun _ h9 => h9) rfl dX0_gives_2 ?_
  refine va_getN (D := D) (ci := 1) (v := .int (nI S.ppl)) (C := RX1) (T := TX1) (N := 8) hx hb hts in_X1 hown hK hP 1 rfl rfl 5 (by decide) (va_Nw.use rfl (hN _ q335 rfl)) (fun _ h9 => h9) (sv hO.ppl) dX0_gives_5 ?_
  refine n_icmp_ne (tgt := 40) hx hb dX0_gives_8 (by decide) (by omega) (by omega) (fun h1 => ?_) (fun h1 => ?_)
  rotate_left
  · exfalso; omega
  have i3 := hI.wnt q0 (by omega)
  have hP : va_P D kcl (cellsX y c (((J.aGiven' J.aGiven).aBest' J.aBest).kMostG' J.kMostG)) s.heap := by rw [car_id]; exact hP
  have hD : va_D (XA c) (cellsX y c (((J.aGiven' J.aGiven).aBest' J.aBest).kMostG' J.kMostG)) := by rw [car_id]; exact hD
  refine lv_iconst (v := nI 0) hx hb dX0_gives_40 (by decide) ?_
  refine lv_istore (lv' := [(4, .int (nI 0)), (0, .ref (c 0)), (1, .int (nI q0)), (2, .int (nI tk)), (3, .int (nI mm))]) hx hb dX0_gives_41 hl (by decide) rfl (fun ls hl => ?_)
  refine w_loopH (α := Nat × (Nat → Int32) × (Nat → Int32) × Nat × Int32) (nL := 5) 43 (fun a_ => [(0, .ref (c 0)), (1, .int (nI q0)), (2, .int (nI tk)), (3, .int (nI mm)), (4, .int (nI a_.1))]) (fun a_ => cellsX y c (((J.aGiven' a_.2.1).aBest' a_.2.2.1).kMostG' a_.2.2.2.2)) (fun a_ => a_.1 ≤ S.str ∧ (∀ k, k < q0 → a_.2.1 k = J.aGiven k) ∧ a_.2.2.2.1 ≤ 7 ∧ GvL S 4 q0 tk mm g J.aGiven J.aBest a_.1 a_.2.2.2.1 a_.2.2.1 ∧ a_.2.2.2.2 = dn a_.2.2.2.1) (fun a_ => S.str - a_.1) ?_ (0, J.aGiven, J.aBest, g, J.kMostG) (⟨Nat.zero_le _, fun k _ => rfl, hg, GvL.zero, hkg⟩) ls _ _ (lv_sub hl [1, 2, 3, 4, 0] rfl) hP hD hS
  rintro ⟨i, G, B, g1, vg⟩ hi ih ls H locs hl hP hD hS
  have hP : va_P D kcl (cellsX y c (((J.aGiven' G).aBest' B).kMostG' vg)) H := hP
  have hD : va_D (XA c) (cellsX y c (((J.aGiven' G).aBest' B).kMostG' vg)) := hD
  have hi : i ≤ S.str ∧ (∀ k, k < q0 → G k = J.aGiven k) ∧ g1 ≤ 7 ∧ GvL S 4 q0 tk mm g J.aGiven J.aBest i g1 B ∧ vg = dn g1 := hi
  have hl : lv_has ls 5 [(0, .ref (c 0)), (1, .int (nI q0)), (2, .int (nI tk)), (3, .int (nI mm)), (4, .int (nI i))] := hl
  obtain ⟨hi1, hG, hg1, hL, hvg⟩ := hi
  have hO1 := XOk.car hO G B vg
  refine lv_iload hx hb dX0_gives_43 (lv_at hl 4 rfl) ?_
  refine lv_aload_n hx hb dX0_gives_45 rfl (lv_at hl 0 rfl) ?_
  refine va_get (D := D) (ci := 0) (v := .ref (c 1)) (C := RX0) (T := TX0) (N := 19) hx hb hts in_X0 hown hK hP 0 rfl rfl 0 (by decide) (hts _ q485) (fun _ h9 => h9) rfl dX0_gives_46 ?_
  refine va_getN (D := D) (ci := 1) (v := .int (nI S.str)) (C := RX1) (T := TX1) (N := 8) hx hb hts in_X1 hown hK hP 1 rfl rfl 1 (by decide) (va_Nw.use rfl (hN _ q322 rfl)) (fun _ h9 => h9) (sv hO1.str) dX0_gives_49 ?_
  refine n_icmp_ge (tgt := 115) hx hb dX0_gives_52 (by decide) (by omega) (by omega) (fun h3 => ?_) (fun h3 => ?_)
  · have ei : i = S.str := by omega
    rw [ei] at hL
    refine lv_aload_n hx hb dX0_gives_115 rfl (lv_at hl 0 rfl) ?_
    refine va_get (D := D) (ci := 0) (v := .ref (c 14)) (C := RX0) (T := TX0) (N := 19) hx hb hts in_X0 hown hK hP 0 rfl rfl 11 (by decide) (hts _ q502) (fun _ h9 => h9) rfl dX0_gives_116 ?_
    refine lv_iload_n hx hb dX0_gives_119 rfl (lv_at hl 1 rfl) ?_
    refine lv_bipush (v := (-9)) hx hb dX0_gives_120 (by decide) ?_
    refine n_iast hx hb hK hP hD hS 14 0 rfl rfl (j := q0) (by omega) (by decide) dX0_gives_122 (fun H locs hP hD hS => ?_)
    have hP : va_P D kcl (cellsX y c (((J.aBest' B).kMostG' vg).aGiven' (upd G q0 (-9)))) H := hP
    have hD : va_D (XA c) (cellsX y c (((J.aBest' B).kMostG' vg).aGiven' (upd G q0 (-9)))) := hD
    refine lv_aload_n hx hb dX0_gives_123 rfl (lv_at hl 0 rfl) ?_
    refine lv_iload_n hx hb dX0_gives_124 rfl (lv_at hl 1 rfl) ?_
    refine lv_iconst (v := nI 1) hx hb dX0_gives_125 (by decide) ?_
    refine n_add hx hb dX0_gives_126 ?_
    refine lv_iload_n hx hb dX0_gives_127 rfl (lv_at hl 2 rfl) ?_
    refine lv_iload_n hx hb dX0_gives_128 rfl (lv_at hl 3 rfl) ?_
    have hP : va_P D kcl (cellsX y c (((J.aGiven' (upd G q0 (-9))).aBest' B).kMostG' vg)) H := hP
    have hD : va_D (XA c) (cellsX y c (((J.aGiven' (upd G q0 (-9))).aBest' B).kMostG' vg)) := hD
    have hO2 := XOk.car hO (upd G q0 (-9)) B vg
    refine h_callv (va_runV (As := [.int (nI (q0 + 1)), .int (nI tk), .int (nI mm)]) (rest := []) ⟨hx, hb, hml, hown, hts⟩ (m_X0_gives4 l D y c (((J.aGiven' (upd G q0 (-9))).aBest' B).kMostG' vg) S hI hO2 (q0 + 1) tk mm g1 (by omega) htk (by omega) hg1 (car_k.trans hvg)) (cwV 3 hts (lw_V q729 q731 qs25 q54 q732) rfl rfl rfl ⟨rfl, hd_X0_gives⟩ ⟨Nat.le_of_ble_eq_true rfl, Nat.le_of_ble_eq_true rfl⟩) (preVH hC hP hD 0 0 rfl rfl) rfl rfl hl.1 rfl (lv_room (Nat.le_of_ble_eq_true rfl)) dX0_gives_129 ⟨Nat.le_of_ble_eq_true rfl, Nat.le_of_ble_eq_true rfl⟩) hS (fun J2 H locs hp2 hP hD hS => ?_)
    have hP : va_P D kcl (cellsX y c J2) H := hP
    have hD : va_D (XA c) (cellsX y c J2) := hD
    obtain ⟨G2, B2, g2, v2, e2, hv2, hG2, hR⟩ := hp2
    rw [car_car] at e2
    rw [car_g] at hG2 hR
    rw [car_b] at hR
    subst e2
    exact h_vret (V := fun J' => cellsX y c J') (((J.aGiven' G2).aBest' B2).kMostG' v2) hx hb hr hlocks hC hP hD hS (⟨G2, B2, g2, v2, rfl, hv2, fun k hk => (hG2 k (by omega)).trans ((pk_un (by omega)).trans (hG k hk)), hL.end (fun k hk => (pk_un (by omega)).trans (hG k hk)) pk_us hR⟩) dX0_gives_132
  refine lv_iload_n hx hb dX0_gives_55 rfl (lv_at hl 2 rfl) ?_
  refine lv_iload hx hb dX0_gives_56 (lv_at hl 4 rfl) ?_
  refine va_callR (va_runS (As := [.int (nI tk), .int (nI i)]) (rest := []) ⟨hx, hb, hml, hown, hts⟩ (m_X0_has l tk i (by omega) (by omega)) (va_cwS 2 hts (lw_S q634 q635 q54 q636) rfl rfl rfl hd_X0_has ⟨Nat.le_of_ble_eq_true rfl, Nat.le_of_ble_eq_true rfl⟩) pre0 rfl rfl hl.1 rfl (lv_room (Nat.le_of_ble_eq_true rfl)) dX0_gives_58 ⟨Nat.le_of_ble_eq_true rfl, Nat.le_of_ble_eq_true rfl⟩) ?_
  refine z_if_ne (tgt := 109) hx hb dX0_gives_61 (by decide) (fun h4 => ?_) (fun h4 => ?_)
  · refine lv_iinc (v := nI (i + 1)) (lv' := [(4, .int (nI (i + 1))), (0, .ref (c 0)), (1, .int (nI q0)), (2, .int (nI tk)), (3, .int (nI mm))]) hx hb dX0_gives_109 hl (k := 4) rfl (nI_inc _) (by decide) rfl (fun ls hl => ?_)
    refine lv_goto (tgt := 43) hx hb dX0_gives_112 (by decide) ?_
    exact ih (i + 1, G, B, g1, vg) (⟨by dsimp only; omega, hG, hg1, hL.skip (okC_has h4), hvg⟩) (by dsimp only; omega) ls _ _ (lv_sub hl [1, 2, 3, 4, 0] rfl) hP hD hS
  have i4 := wid_le hI.now (show i < S.str by omega)
  refine lv_aload_n hx hb dX0_gives_64 rfl (lv_at hl 0 rfl) ?_
  refine va_get (D := D) (ci := 0) (v := .ref (c 7)) (C := RX0) (T := TX0) (N := 19) hx hb hts in_X0 hown hK hP 0 rfl rfl 5 (by decide) (hts _ q496) (fun _ h9 => h9) rfl dX0_gives_65 ?_
  refine lv_iload hx hb dX0_gives_68 (lv_at hl 4 rfl) ?_
  refine va_callR (va_runV (As := [.int (nI i)]) (rest := []) ⟨hx, hb, hml, hown, hts⟩ (m_X3_width l D y c (((J.aGiven' G).aBest' B).kMostG' vg) S hI hO1 i (by omega)) (cwV 1 hts (lw_V q563 q564 q565 q57 q566) rfl rfl rfl ⟨rfl, hd_X3_width⟩ ⟨Nat.le_of_ble_eq_true rfl, Nat.le_of_ble_eq_true rfl⟩) (preVR hC hP 3 7 rfl rfl) rfl rfl hl.1 rfl (lv_room (Nat.le_of_ble_eq_true rfl)) dX0_gives_70 ⟨Nat.le_of_ble_eq_true rfl, Nat.le_of_ble_eq_true rfl⟩) ?_
  refine lv_aload_n hx hb dX0_gives_73 rfl (lv_at hl 0 rfl) ?_
  refine va_get (D := D) (ci := 0) (v := .ref (c 1)) (C := RX0) (T := TX0) (N := 19) hx hb hts in_X0 hown hK hP 0 rfl rfl 0 (by decide) (hts _ q485) (fun _ h9 => h9) rfl dX0_gives_74 ?_
  refine va_getN (D := D) (ci := 1) (v := .ref (c 6)) (C := RX1) (T := TX1) (N := 8) hx hb hts in_X1 hown hK hP 1 rfl rfl 7 (by decide) (va_Nw.use rfl (hN _ q341 rfl)) (fun _ h9 => h9) rfl dX0_gives_77 ?_
  refine lv_iload_n hx hb dX0_gives_80 rfl (lv_at hl 1 rfl) ?_
  refine n_iald (v := nI (S.wnt q0)) hx hb hK hP 6 0 rfl rfl (j := q0) (by omega) (by decide) (hO1.wnt q0 (by omega)) dX0_gives_81 ?_
  refine n_icmp_lt (tgt := 109) hx hb dX0_gives_82 (by decide) (by omega) (by omega) (fun h5 => ?_) (fun h5 => ?_)
  · refine lv_iinc (v := nI (i + 1)) (lv' := [(4, .int (nI (i + 1))), (0, .ref (c 0)), (1, .int (nI q0)), (2, .int (nI tk)), (3, .int (nI mm))]) hx hb dX0_gives_109 hl (k := 4) rfl (nI_inc _) (by decide) rfl (fun ls hl => ?_)
    refine lv_goto (tgt := 43) hx hb dX0_gives_112 (by decide) ?_
    exact ih (i + 1, G, B, g1, vg) (⟨by dsimp only; omega, hG, hg1, hL.skip (okC_lt h5), hvg⟩) (by dsimp only; omega) ls _ _ (lv_sub hl [1, 2, 3, 4, 0] rfl) hP hD hS
  refine lv_aload_n hx hb dX0_gives_85 rfl (lv_at hl 0 rfl) ?_
  refine va_get (D := D) (ci := 0) (v := .ref (c 14)) (C := RX0) (T := TX0) (N := 19) hx hb hts in_X0 hown hK hP 0 rfl rfl 11 (by decide) (hts _ q502) (fun _ h9 => h9) rfl dX0_gives_86 ?_
  refine lv_iload_n hx hb dX0_gives_89 rfl (lv_at hl 1 rfl) ?_
  refine lv_iload hx hb dX0_gives_90 (lv_at hl 4 rfl) ?_
  refine n_iast hx hb hK hP hD hS 14 0 rfl rfl (j := q0) (by omega) (by decide) dX0_gives_92 (fun H locs hP hD hS => ?_)
  have hP : va_P D kcl (cellsX y c (((J.aBest' B).kMostG' vg).aGiven' (upd G q0 (nI i)))) H := hP
  have hD : va_D (XA c) (cellsX y c (((J.aBest' B).kMostG' vg).aGiven' (upd G q0 (nI i)))) := hD
  refine lv_aload_n hx hb dX0_gives_93 rfl (lv_at hl 0 rfl) ?_
  refine lv_iload_n hx hb dX0_gives_94 rfl (lv_at hl 1 rfl) ?_
  refine lv_iconst (v := nI 1) hx hb dX0_gives_95 (by decide) ?_
  refine n_add hx hb dX0_gives_96 ?_
  refine lv_iload_n hx hb dX0_gives_97 rfl (lv_at hl 2 rfl) ?_
  refine lv_iconst (v := nI 1) hx hb dX0_gives_98 (by decide) ?_
  refine lv_iload hx hb dX0_gives_99 (lv_at hl 4 rfl) ?_
  refine n_shl1 hx hb dX0_gives_101 (by omega) ?_
  refine n_or hx hb dX0_gives_102 ?_
  refine lv_iload_n hx hb dX0_gives_103 rfl (lv_at hl 3 rfl) ?_
  refine lv_iconst (v := nI 1) hx hb dX0_gives_104 (by decide) ?_
  refine n_add hx hb dX0_gives_105 ?_
  have hP : va_P D kcl (cellsX y c (((J.aGiven' (upd G q0 (nI i))).aBest' B).kMostG' vg)) H := hP
  have hD : va_D (XA c) (cellsX y c (((J.aGiven' (upd G q0 (nI i))).aBest' B).kMostG' vg)) := hD
  have hO2 := XOk.car hO (upd G q0 (nI i)) B vg
  refine h_callv (va_runV (As := [.int (nI (q0 + 1)), .int (nI (tk ||| (2 ^ i))), .int (nI (mm + 1))]) (rest := []) ⟨hx, hb, hml, hown, hts⟩ (m_X0_gives4 l D y c (((J.aGiven' (upd G q0 (nI i))).aBest' B).kMostG' vg) S hI hO2 (q0 + 1) (tk ||| 2 ^ i) (mm + 1) g1 (by omega) (Nat.or_lt_two_pow htk (Nat.pow_lt_pow_right (by omega) (by omega))) (by omega) hg1 (car_k.trans hvg)) (cwV 3 hts (lw_V q729 q731 qs25 q54 q732) rfl rfl rfl ⟨rfl, hd_X0_gives⟩ ⟨Nat.le_of_ble_eq_true rfl, Nat.le_of_ble_eq_true rfl⟩) (preVH hC hP hD 0 0 rfl rfl) rfl rfl hl.1 rfl (lv_room (Nat.le_of_ble_eq_true rfl)) dX0_gives_106 ⟨Nat.le_of_ble_eq_true rfl, Nat.le_of_ble_eq_true rfl⟩) hS (fun J2 H locs hp2 hP hD hS => ?_)
  have hP : va_P D kcl (cellsX y c J2) H := hP
  have hD : va_D (XA c) (cellsX y c J2) := hD
  obtain ⟨G2, B2, g2, v2, e2, hv2, hG2, hR⟩ := hp2
  rw [car_car] at e2
  rw [car_g] at hG2 hR
  rw [car_b] at hR
  subst e2
  refine lv_iinc (v := nI (i + 1)) (lv' := [(4, .int (nI (i + 1))), (0, .ref (c 0)), (1, .int (nI q0)), (2, .int (nI tk)), (3, .int (nI mm))]) hx hb dX0_gives_109 hl (k := 4) rfl (nI_inc _) (by decide) rfl (fun ls hl => ?_)
  refine lv_goto (tgt := 43) hx hb dX0_gives_112 (by decide) ?_
  exact ih (i + 1, G2, B2, g2, v2) (⟨by dsimp only; omega, fun k hk => (hG2 k (by omega)).trans ((pk_un (by omega)).trans (hG k hk)), hR.le (by omega) (by omega) hg1, hL.try (okC_ok h4 (by omega)) (fun k hk => (pk_un (by omega)).trans (hG k hk)) pk_us hR, hv2⟩) (by dsimp only; omega) ls _ _ (lv_sub hl [1, 2, 3, 4, 0] rfl) hP hD hS
/-- X0_gives -/
theorem m_X0_gives6 (l : Launch) (D : va_G) (y : Nat → ClassId) (c : Nat → Nat) (J : XJ) (S : St) (hI : StOk S) (hO : XOk S J) (q0 tk mm g : Nat) (hp : q0 + 6 = S.ppl) (htk : tk < 2 ^ S.str) (hm : mm ≤ q0) (hg : g ≤ 7) (hkg : J.kMostG = dn g) : Met l yX0_gives (ws_ yX0_gives cX0_gives 5 none) ({ frames := 7, cells := 0, slots := 0, locals := 264 }) (va_Pc [.ref (c 0), .int (nI q0), .int (nI tk), .int (nI mm)] (WH D y (XA c) (cellsX y c J))) (va_Qv (fun (J' : XJ) => ∃ G' B' g' v', J' = ((J.aGiven' G').aBest' B').kMostG' v' ∧ v' = dn g' ∧ (∀ i, i < q0 → G' i = J.aGiven i) ∧ GvR S 6 q0 tk mm g J.aGiven J.aBest g' B') (fun (J' : XJ) t => WH D y (XA c) (cellsX y c J') t) (XA c)) 0 0 (XA c) := by
  refine x_start (by decide) (Nat.le_of_ble_eq_true rfl) ?_
  intro p e s m below meth cd ls hx hb hr hts hml hown hlocks hnm hB hl
  have hC := hB.1
  obtain ⟨⟨hK, hN⟩, hP, hD⟩ := hB
  have hS : va_S (XA c) s.heap s.heap [] := va_S.rf
  have hown : s.vm.findClass RX0 = some m.cls := hown
  have hl : lv_has ls 5 [(0, .ref (c 0)), (1, .int (nI q0)), (2, .int (nI tk)), (3, .int (nI mm))] := hl
  have i1 := hI.str
  have i2 := hI.ppl
  have t1 : 2 ^ S.str ≤ 2 ^ 9 := Nat.pow_le_pow_right (by omega) i1
  refine lv_iload_n hx hb dX0_gives_0 rfl (lv_at hl 1 rfl) ?_
  refine lv_aload_n hx hb dX0_gives_1 rfl (lv_at hl 0 rfl) ?_
  refine va_get (D := D) (ci := 0) (v := .ref (c 1)) (C := RX0) (T := TX0) (N := 19) hx hb hts in_X0 hown hK hP 0 rfl rfl 0 (by decide) (hts _ q485) (fun _ h9 => h9) rfl dX0_gives_2 ?_
  refine va_getN (D := D) (ci := 1) (v := .int (nI S.ppl)) (C := RX1) (T := TX1) (N := 8) hx hb hts in_X1 hown hK hP 1 rfl rfl 5 (by decide) (va_Nw.use rfl (hN _ q335 rfl)) (fun _ h9 => h9) (sv hO.ppl) dX0_gives_5 ?_
  refine n_icmp_ne (tgt := 40) hx hb dX0_gives_8 (by decide) (by omega) (by omega) (fun h1 => ?_) (fun h1 => ?_)
  rotate_left
  · exfalso; omega
  have i3 := hI.wnt q0 (by omega)
  have hP : va_P D kcl (cellsX y c (((J.aGiven' J.aGiven).aBest' J.aBest).kMostG' J.kMostG)) s.heap := by rw [car_id]; exact hP
  have hD : va_D (XA c) (cellsX y c (((J.aGiven' J.aGiven).aBest' J.aBest).kMostG' J.kMostG)) := by rw [car_id]; exact hD
  refine lv_iconst (v := nI 0) hx hb dX0_gives_40 (by decide) ?_
  refine lv_istore (lv' := [(4, .int (nI 0)), (0, .ref (c 0)), (1, .int (nI q0)), (2, .int (nI tk)), (3, .int (nI mm))]) hx hb dX0_gives_41 hl (by decide) rfl (fun ls hl => ?_)
  refine w_loopH (α := Nat × (Nat → Int32) × (Nat → Int32) × Nat × Int32) (nL := 5) 43 (fun a_ => [(0, .ref (c 0)), (1, .int (nI q0)), (2, .int (nI tk)), (3, .int (nI mm)), (4, .int (nI a_.1))]) (fun a_ => cellsX y c (((J.aGiven' a_.2.1).aBest' a_.2.2.1).kMostG' a_.2.2.2.2)) (fun a_ => a_.1 ≤ S.str ∧ (∀ k, k < q0 → a_.2.1 k = J.aGiven k) ∧ a_.2.2.2.1 ≤ 7 ∧ GvL S 5 q0 tk mm g J.aGiven J.aBest a_.1 a_.2.2.2.1 a_.2.2.1 ∧ a_.2.2.2.2 = dn a_.2.2.2.1) (fun a_ => S.str - a_.1) ?_ (0, J.aGiven, J.aBest, g, J.kMostG) (⟨Nat.zero_le _, fun k _ => rfl, hg, GvL.zero, hkg⟩) ls _ _ (lv_sub hl [1, 2, 3, 4, 0] rfl) hP hD hS
  rintro ⟨i, G, B, g1, vg⟩ hi ih ls H locs hl hP hD hS
  have hP : va_P D kcl (cellsX y c (((J.aGiven' G).aBest' B).kMostG' vg)) H := hP
  have hD : va_D (XA c) (cellsX y c (((J.aGiven' G).aBest' B).kMostG' vg)) := hD
  have hi : i ≤ S.str ∧ (∀ k, k < q0 → G k = J.aGiven k) ∧ g1 ≤ 7 ∧ GvL S 5 q0 tk mm g J.aGiven J.aBest i g1 B ∧ vg = dn g1 := hi
  have hl : lv_has ls 5 [(0, .ref (c 0)), (1, .int (nI q0)), (2, .int (nI tk)), (3, .int (nI mm)), (4, .int (nI i))] := hl
  obtain ⟨hi1, hG, hg1, hL, hvg⟩ := hi
  have hO1 := XOk.car hO G B vg
  refine lv_iload hx hb dX0_gives_43 (lv_at hl 4 rfl) ?_
  refine lv_aload_n hx hb dX0_gives_45 rfl (lv_at hl 0 rfl) ?_
  refine va_get (D := D) (ci := 0) (v := .ref (c 1)) (C := RX0) (T := TX0) (N := 19) hx hb hts in_X0 hown hK hP 0 rfl rfl 0 (by decide) (hts _ q485) (fun _ h9 => h9) rfl dX0_gives_46 ?_
  refine va_getN (D := D) (ci := 1) (v := .int (nI S.str)) (C := RX1) (T := TX1) (N := 8) hx hb hts in_X1 hown hK hP 1 rfl rfl 1 (by decide) (va_Nw.use rfl (hN _ q322 rfl)) (fun _ h9 => h9) (sv hO1.str) dX0_gives_49 ?_
  refine n_icmp_ge (tgt := 115) hx hb dX0_gives_52 (by decide) (by omega) (by omega) (fun h3 => ?_) (fun h3 => ?_)
  · have ei : i = S.str := by omega
    rw [ei] at hL
    refine lv_aload_n hx hb dX0_gives_115 rfl (lv_at hl 0 rfl) ?_
    refine va_get (D := D) (ci := 0) (v := .ref (c 14)) (C := RX0) (T := TX0) (N := 19) hx hb hts in_X0 hown hK hP 0 rfl rfl 11 (by decide) (hts _ q502) (fun _ h9 => h9) rfl dX0_gives_116 ?_
    refine lv_iload_n hx hb dX0_gives_119 rfl (lv_at hl 1 rfl) ?_
    refine lv_bipush (v := (-9)) hx hb dX0_gives_120 (by decide) ?_
    refine n_iast hx hb hK hP hD hS 14 0 rfl rfl (j := q0) (by omega) (by decide) dX0_gives_122 (fun H locs hP hD hS => ?_)
    have hP : va_P D kcl (cellsX y c (((J.aBest' B).kMostG' vg).aGiven' (upd G q0 (-9)))) H := hP
    have hD : va_D (XA c) (cellsX y c (((J.aBest' B).kMostG' vg).aGiven' (upd G q0 (-9)))) := hD
    refine lv_aload_n hx hb dX0_gives_123 rfl (lv_at hl 0 rfl) ?_
    refine lv_iload_n hx hb dX0_gives_124 rfl (lv_at hl 1 rfl) ?_
    refine lv_iconst (v := nI 1) hx hb dX0_gives_125 (by decide) ?_
    refine n_add hx hb dX0_gives_126 ?_
    refine lv_iload_n hx hb dX0_gives_127 rfl (lv_at hl 2 rfl) ?_
    refine lv_iload_n hx hb dX0_gives_128 rfl (lv_at hl 3 rfl) ?_
    have hP : va_P D kcl (cellsX y c (((J.aGiven' (upd G q0 (-9))).aBest' B).kMostG' vg)) H := hP
    have hD : va_D (XA c) (cellsX y c (((J.aGiven' (upd G q0 (-9))).aBest' B).kMostG' vg)) := hD
    have hO2 := XOk.car hO (upd G q0 (-9)) B vg
    refine h_callv (va_runV (As := [.int (nI (q0 + 1)), .int (nI tk), .int (nI mm)]) (rest := []) ⟨hx, hb, hml, hown, hts⟩ (m_X0_gives5 l D y c (((J.aGiven' (upd G q0 (-9))).aBest' B).kMostG' vg) S hI hO2 (q0 + 1) tk mm g1 (by omega) htk (by omega) hg1 (car_k.trans hvg)) (cwV 3 hts (lw_V q729 q731 qs25 q54 q732) rfl rfl rfl ⟨rfl, hd_X0_gives⟩ ⟨Nat.le_of_ble_eq_true rfl, Nat.le_of_ble_eq_true rfl⟩) (preVH hC hP hD 0 0 rfl rfl) rfl rfl hl.1 rfl (lv_room (Nat.le_of_ble_eq_true rfl)) dX0_gives_129 ⟨Nat.le_of_ble_eq_true rfl, Nat.le_of_ble_eq_true rfl⟩) hS (fun J2 H locs hp2 hP hD hS => ?_)
    have hP : va_P D kcl (cellsX y c J2) H := hP
    have hD : va_D (XA c) (cellsX y c J2) := hD
    obtain ⟨G2, B2, g2, v2, e2, hv2, hG2, hR⟩ := hp2
    rw [car_car] at e2
    rw [car_g] at hG2 hR
    rw [car_b] at hR
    subst e2
    exact h_vret (V := fun J' => cellsX y c J') (((J.aGiven' G2).aBest' B2).kMostG' v2) hx hb hr hlocks hC hP hD hS (⟨G2, B2, g2, v2, rfl, hv2, fun k hk => (hG2 k (by omega)).trans ((pk_un (by omega)).trans (hG k hk)), hL.end (fun k hk => (pk_un (by omega)).trans (hG k hk)) pk_us hR⟩) dX0_gives_132
  refine lv_iload_n hx hb dX0_gives_55 rfl (lv_at hl 2 rfl) ?_
  refine lv_iload hx hb dX0_gives_56 (lv_at hl 4 rfl) ?_
  refine va_callR (va_runS (As := [.int (nI tk), .int (nI i)]) (rest := []) ⟨hx, hb, hml, hown, hts⟩ (m_X0_has l tk i (by omega) (by omega)) (va_cwS 2 hts (lw_S q634 q635 q54 q636) rfl rfl rfl hd_X0_has ⟨Nat.le_of_ble_eq_true rfl, Nat.le_of_ble_eq_true rfl⟩) pre0 rfl rfl hl.1 rfl (lv_room (Nat.le_of_ble_eq_true rfl)) dX0_gives_58 ⟨Nat.le_of_ble_eq_true rfl, Nat.le_of_ble_eq_true rfl⟩) ?_
  refine z_if_ne (tgt := 109) hx hb dX0_gives_61 (by decide) (fun h4 => ?_) (fun h4 => ?_)
  · refine lv_iinc (v := nI (i + 1)) (lv' := [(4, .int (nI (i + 1))), (0, .ref (c 0)), (1, .int (nI q0)), (2, .int (nI tk)), (3, .int (nI mm))]) hx hb dX0_gives_109 hl (k := 4) rfl (nI_inc _) (by decide) rfl (fun ls hl => ?_)
    refine lv_goto (tgt := 43) hx hb dX0_gives_112 (by decide) ?_
    exact ih (i + 1, G, B, g1, vg) (⟨by dsimp only; omega, hG, hg1, hL.skip (okC_has h4), hvg⟩) (by dsimp only; omega) ls _ _ (lv_sub hl [1, 2, 3, 4, 0] rfl) hP hD hS
  have i4 := wid_le hI.now (show i < S.str by omega)
  refine lv_aload_n hx hb dX0_gives_64 rfl (lv_at hl 0 rfl) ?_
  refine va_get (D := D) (ci := 0) (v := .ref (c 7)) (C := RX0) (T := TX0) (N := 19) hx hb hts in_X0 hown hK hP 0 rfl rfl 5 (by decide) (hts _ q496) (fun _ h9 => h9) rfl dX0_gives_65 ?_
  refine lv_iload hx hb dX0_gives_68 (lv_at hl 4 rfl) ?_
  refine va_callR (va_runV (As := [.int (nI i)]) (rest := []) ⟨hx, hb, hml, hown, hts⟩ (m_X3_width l D y c (((J.aGiven' G).aBest' B).kMostG' vg) S hI hO1 i (by omega)) (cwV 1 hts (lw_V q563 q564 q565 q57 q566) rfl rfl rfl ⟨rfl, hd_X3_width⟩ ⟨Nat.le_of_ble_eq_true rfl, Nat.le_of_ble_eq_true rfl⟩) (preVR hC hP 3 7 rfl rfl) rfl rfl hl.1 rfl (lv_room (Nat.le_of_ble_eq_true rfl)) dX0_gives_70 ⟨Nat.le_of_ble_eq_true rfl, Nat.le_of_ble_eq_true rfl⟩) ?_
  refine lv_aload_n hx hb dX0_gives_73 rfl (lv_at hl 0 rfl) ?_
  refine va_get (D := D) (ci := 0) (v := .ref (c 1)) (C := RX0) (T := TX0) (N := 19) hx hb hts in_X0 hown hK hP 0 rfl rfl 0 (by decide) (hts _ q485) (fun _ h9 => h9) rfl dX0_gives_74 ?_
  refine va_getN (D := D) (ci := 1) (v := .ref (c 6)) (C := RX1) (T := TX1) (N := 8) hx hb hts in_X1 hown hK hP 1 rfl rfl 7 (by decide) (va_Nw.use rfl (hN _ q341 rfl)) (fun _ h9 => h9) rfl dX0_gives_77 ?_
  refine lv_iload_n hx hb dX0_gives_80 rfl (lv_at hl 1 rfl) ?_
  refine n_iald (v := nI (S.wnt q0)) hx hb hK hP 6 0 rfl rfl (j := q0) (by omega) (by decide) (hO1.wnt q0 (by omega)) dX0_gives_81 ?_
  refine n_icmp_lt (tgt := 109) hx hb dX0_gives_82 (by decide) (by omega) (by omega) (fun h5 => ?_) (fun h5 => ?_)
  · refine lv_iinc (v := nI (i + 1)) (lv' := [(4, .int (nI (i + 1))), (0, .ref (c 0)), (1, .int (nI q0)), (2, .int (nI tk)), (3, .int (nI mm))]) hx hb dX0_gives_109 hl (k := 4) rfl (nI_inc _) (by decide) rfl (fun ls hl => ?_)
    refine lv_goto (tgt := 43) hx hb dX0_gives_112 (by decide) ?_
    exact ih (i + 1, G, B, g1, vg) (⟨by dsimp only; omega, hG, hg1, hL.skip (okC_lt h5), hvg⟩) (by dsimp only; omega) ls _ _ (lv_sub hl [1, 2, 3, 4, 0] rfl) hP hD hS
  refine lv_aload_n hx hb dX0_gives_85 rfl (lv_at hl 0 rfl) ?_
  refine va_get (D := D) (ci := 0) (v := .ref (c 14)) (C := RX0) (T := TX0) (N := 19) hx hb hts in_X0 hown hK hP 0 rfl rfl 11 (by decide) (hts _ q502) (fun _ h9 => h9) rfl dX0_gives_86 ?_
  refine lv_iload_n hx hb dX0_gives_89 rfl (lv_at hl 1 rfl) ?_
  refine lv_iload hx hb dX0_gives_90 (lv_at hl 4 rfl) ?_
  refine n_iast hx hb hK hP hD hS 14 0 rfl rfl (j := q0) (by omega) (by decide) dX0_gives_92 (fun H locs hP hD hS => ?_)
  have hP : va_P D kcl (cellsX y c (((J.aBest' B).kMostG' vg).aGiven' (upd G q0 (nI i)))) H := hP
  have hD : va_D (XA c) (cellsX y c (((J.aBest' B).kMostG' vg).aGiven' (upd G q0 (nI i)))) := hD
  refine lv_aload_n hx hb dX0_gives_93 rfl (lv_at hl 0 rfl) ?_
  refine lv_iload_n hx hb dX0_gives_94 rfl (lv_at hl 1 rfl) ?_
  refine lv_iconst (v := nI 1) hx hb dX0_gives_95 (by decide) ?_
  refine n_add hx hb dX0_gives_96 ?_
  refine lv_iload_n hx hb dX0_gives_97 rfl (lv_at hl 2 rfl) ?_
  refine lv_iconst (v := nI 1) hx hb dX0_gives_98 (by decide) ?_
  refine lv_iload hx hb dX0_gives_99 (lv_at hl 4 rfl) ?_
  refine n_shl1 hx hb dX0_gives_101 (by omega) ?_
  refine n_or hx hb dX0_gives_102 ?_
  refine lv_iload_n hx hb dX0_gives_103 rfl (lv_at hl 3 rfl) ?_
  refine lv_iconst (v := nI 1) hx hb dX0_gives_104 (by decide) ?_
  refine n_add hx hb dX0_gives_105 ?_
  have hP : va_P D kcl (cellsX y c (((J.aGiven' (upd G q0 (nI i))).aBest' B).kMostG' vg)) H := hP
  have hD : va_D (XA c) (cellsX y c (((J.aGiven' (upd G q0 (nI i))).aBest' B).kMostG' vg)) := hD
  have hO2 := XOk.car hO (upd G q0 (nI i)) B vg
  refine h_callv (va_runV (As := [.int (nI (q0 + 1)), .int (nI (tk ||| (2 ^ i))), .int (nI (mm + 1))]) (rest := []) ⟨hx, hb, hml, hown, hts⟩ (m_X0_gives5 l D y c (((J.aGiven' (upd G q0 (nI i))).aBest' B).kMostG' vg) S hI hO2 (q0 + 1) (tk ||| 2 ^ i) (mm + 1) g1 (by omega) (Nat.or_lt_two_pow htk (Nat.pow_lt_pow_right (by omega) (by omega))) (by omega) hg1 (car_k.trans hvg)) (cwV 3 hts (lw_V q729 q731 qs25 q54 q732) rfl rfl rfl ⟨rfl, hd_X0_gives⟩ ⟨Nat.le_of_ble_eq_true rfl, Nat.le_of_ble_eq_true rfl⟩) (preVH hC hP hD 0 0 rfl rfl) rfl rfl hl.1 rfl (lv_room (Nat.le_of_ble_eq_true rfl)) dX0_gives_106 ⟨Nat.le_of_ble_eq_true rfl, Nat.le_of_ble_eq_true rfl⟩) hS (fun J2 H locs hp2 hP hD hS => ?_)
  have hP : va_P D kcl (cellsX y c J2) H := hP
  have hD : va_D (XA c) (cellsX y c J2) := hD
  obtain ⟨G2, B2, g2, v2, e2, hv2, hG2, hR⟩ := hp2
  rw [car_car] at e2
  rw [car_g] at hG2 hR
  rw [car_b] at hR
  subst e2
  refine lv_iinc (v := nI (i + 1)) (lv' := [(4, .int (nI (i + 1))), (0, .ref (c 0)), (1, .int (nI q0)), (2, .int (nI tk)), (3, .int (nI mm))]) hx hb dX0_gives_109 hl (k := 4) rfl (nI_inc _) (by decide) rfl (fun ls hl => ?_)
  refine lv_goto (tgt := 43) hx hb dX0_gives_112 (by decide) ?_
  exact ih (i + 1, G2, B2, g2, v2) (⟨by dsimp only; omega, fun k hk => (hG2 k (by omega)).trans ((pk_un (by omega)).trans (hG k hk)), hR.le (by omega) (by omega) hg1, hL.try (okC_ok h4 (by omega)) (fun k hk => (pk_un (by omega)).trans (hG k hk)) pk_us hR, hv2⟩) (by dsimp only; omega) ls _ _ (lv_sub hl [1, 2, 3, 4, 0] rfl) hP hD hS
