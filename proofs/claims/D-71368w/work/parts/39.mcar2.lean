/-! model: carriage -/
set_option maxRecDepth 100000
theorem hd_X11_carriage : yX11_carriage.cls ≠ "java/lang/invoke/MethodHandle" ∧ yX11_carriage.cls ≠ "java/lang/invoke/VarHandle" ∧ (parseMethodDescriptor yX11_carriage.desc).map (fun d => d.parameters.length) = some 1 := by decide +kernel
/-- X11_carriage -/
theorem m_X11_carriage (l : Launch) (D : va_G) (y : Nat → ClassId) (c : Nat → Nat) (J : MJ) (S : St) (hI : StOk S) (hO : MOk S J) (v : Int32) : Met l yX11_carriage (ws_ yX11_carriage cX11_carriage 7 (some .int)) ({ frames := 3, cells := 0, slots := 0, locals := 71 }) (va_Pc [.ref (c 0), .int v] (WH D y (MA c) (cellsM y c J))) (va_Qi (fun r (J' : MJ) => r = ansCar S v ∧ MOk S J') (fun (J' : MJ) t => WH D y (MA c) (cellsM y c J') t) (MA c)) 0 0 (MA c) := by
  refine x_start (by decide) (Nat.le_of_ble_eq_true rfl) ?_
  intro p e s m below meth cd ls hx hb hr hts hml hown hlocks hnm hB hl
  have hC := hB.1
  obtain ⟨⟨hK, hN⟩, hP, hD⟩ := hB
  have hS : va_S (MA c) s.heap s.heap [] := va_S.rf
  have hown : s.vm.findClass RX11 = some m.cls := hown
  have hl : lv_has ls 7 [(0, .ref (c 0)), (1, .int v)] := hl
  have i1 := hI.str
  have i2 := hI.ppl
  have t1 : 2 ^ S.str ≤ 2 ^ 9 := Nat.pow_le_pow_right (by omega) i1
  refine lv_iload_n hx hb dX11_carriage_0 rfl (lv_at hl 1 rfl) ?_
  refine lv_iconst (v := (-1)) hx hb dX11_carriage_1 (by decide) ?_
  refine lv_icmp_eq (tgt := 15) hx hb dX11_carriage_2 (by decide) (fun h1 => ?_) (fun h1 => ?_)
  · subst h1
    refine lv_aload_n hx hb dX11_carriage_15 rfl (lv_at hl 0 rfl) ?_
    refine h_callv (va_runV (As := []) (rest := []) ⟨hx, hb, hml, hown, hts⟩ (m_X11_tellMost l D y c J S hI hO) (cwV 0 hts (lw_V q1061 q1063 qs49 q65 q1064) rfl rfl rfl ⟨rfl, hd_X11_tellMost⟩ ⟨Nat.le_of_ble_eq_true rfl, Nat.le_of_ble_eq_true rfl⟩) (preVH hC hP hD 11 0 rfl rfl) rfl rfl hl.1 rfl (lv_room (Nat.le_of_ble_eq_true rfl)) dX11_carriage_16 ⟨Nat.le_of_ble_eq_true rfl, Nat.le_of_ble_eq_true rfl⟩) hS (fun J2 H locs hp2 hP hD hS => ?_)
    have hP : va_P D kcl (cellsM y c J2) H := hP
    have hD : va_D (MA c) (cellsM y c J2) := hD
    obtain ⟨M, rfl, hM⟩ := hp2
    have hP : va_P D kcl (cellsM y c (J.mMost' M)) H := hP
    have hD : va_D (MA c) (cellsM y c (J.mMost' M)) := hD
    have hO1 := MOk.most hO M
    refine lv_iload_n hx hb dX11_carriage_19 rfl (lv_at hl 1 rfl) ?_
    refine lv_iconst (v := (-1)) hx hb dX11_carriage_20 (by decide) ?_
    refine lv_icmp_ne (tgt := 31) hx hb dX11_carriage_21 (by decide) (fun h3 => ?_) (fun h3 => ?_)
    · exact absurd rfl h3
    refine lv_aload_n hx hb dX11_carriage_24 rfl (lv_at hl 0 rfl) ?_
    refine va_get (D := D) (ci := 11) (v := .ref (c 15)) (C := RX11) (T := TX11) (N := 26) hx hb hts in_X11 hown hK hP 0 rfl rfl 21 (by decide) (hts _ q846) (fun _ h9 => h9) rfl dX11_carriage_25 ?_
    refine lv_iconst (v := nI 0) hx hb dX11_carriage_28 (by decide) ?_
    refine n_iald (v := nI (mstN S S.ppl 0 0)) hx hb hK hP 15 0 rfl rfl (j := 0) (by omega) (by decide) (hM 0 (Nat.zero_le _) 0 (Nat.pow_pos (by omega))) dX11_carriage_29 ?_
    exact h_iret (V := fun J' => cellsM y c J') (J.mMost' M) hx hb hr hlocks hC hP hD hS (⟨by rw [ansCar, if_pos rfl], hO1⟩) dX11_carriage_30
  refine lv_aload_n hx hb dX11_carriage_5 rfl (lv_at hl 0 rfl) ?_
  refine lv_iload_n hx hb dX11_carriage_6 rfl (lv_at hl 1 rfl) ?_
  refine va_callR (va_runV (As := [.int v]) (rest := []) ⟨hx, hb, hml, hown, hts⟩ (m_X11_isPerson l D y c J S hI hO v) (cwV 1 hts (lw_V q967 q969 qs39 q65 q970) rfl rfl rfl ⟨rfl, hd_X11_isPerson⟩ ⟨Nat.le_of_ble_eq_true rfl, Nat.le_of_ble_eq_true rfl⟩) (preVR hC hP 11 0 rfl rfl) rfl rfl hl.1 rfl (lv_room (Nat.le_of_ble_eq_true rfl)) dX11_carriage_7 ⟨Nat.le_of_ble_eq_true rfl, Nat.le_of_ble_eq_true rfl⟩) ?_
  refine z_if_ne (tgt := 15) hx hb dX11_carriage_10 (by decide) (fun h2 => ?_) (fun h2 => ?_)
  rotate_left
  · refine lv_iconst (v := (-1)) hx hb dX11_carriage_13 (by decide) ?_
    exact h_iret (V := fun J' => cellsM y c J') J hx hb hr hlocks hC hP hD hS (⟨by rw [ansCar, if_neg h1, if_neg (bnf h2)], hO⟩) dX11_carriage_14
  have gj := h2
  obtain ⟨j, hj, rfl⟩ := ixI_of h2
  refine lv_aload_n hx hb dX11_carriage_15 rfl (lv_at hl 0 rfl) ?_
  refine h_callv (va_runV (As := []) (rest := []) ⟨hx, hb, hml, hown, hts⟩ (m_X11_tellMost l D y c J S hI hO) (cwV 0 hts (lw_V q1061 q1063 qs49 q65 q1064) rfl rfl rfl ⟨rfl, hd_X11_tellMost⟩ ⟨Nat.le_of_ble_eq_true rfl, Nat.le_of_ble_eq_true rfl⟩) (preVH hC hP hD 11 0 rfl rfl) rfl rfl hl.1 rfl (lv_room (Nat.le_of_ble_eq_true rfl)) dX11_carriage_16 ⟨Nat.le_of_ble_eq_true rfl, Nat.le_of_ble_eq_true rfl⟩) hS (fun J2 H locs hp2 hP hD hS => ?_)
  have hP : va_P D kcl (cellsM y c J2) H := hP
  have hD : va_D (MA c) (cellsM y c J2) := hD
  obtain ⟨M, rfl, hM⟩ := hp2
  have hP : va_P D kcl (cellsM y c (J.mMost' M)) H := hP
  have hD : va_D (MA c) (cellsM y c (J.mMost' M)) := hD
  have hO1 := MOk.most hO M
  refine lv_iload_n hx hb dX11_carriage_19 rfl (lv_at hl 1 rfl) ?_
  refine lv_iconst (v := (-1)) hx hb dX11_carriage_20 (by decide) ?_
  refine lv_icmp_ne (tgt := 31) hx hb dX11_carriage_21 (by decide) (fun h3 => ?_) (fun h3 => ?_)
  rotate_left
  · exact absurd h3 h1
  have nz : 0 < 2 ^ S.str := Nat.pow_pos (by omega)
  refine lv_iconst (v := nI 0) hx hb dX11_carriage_31 (by decide) ?_
  refine lv_istore_n (lv' := [(2, .int (nI 0)), (0, .ref (c 0)), (1, .int (nI j))]) hx hb dX11_carriage_32 rfl hl (by decide) rfl (fun ls hl => ?_)
  refine lv_bipush (v := (-9)) hx hb dX11_carriage_33 (by decide) ?_
  refine lv_istore_n (lv' := [(3, .int (-9)), (2, .int (nI 0)), (0, .ref (c 0)), (1, .int (nI j))]) hx hb dX11_carriage_35 rfl hl (by decide) rfl (fun ls hl => ?_)
  refine lv_iconst (v := nI 0) hx hb dX11_carriage_36 (by decide) ?_
  refine lv_istore (lv' := [(4, .int (nI 0)), (3, .int (-9)), (2, .int (nI 0)), (0, .ref (c 0)), (1, .int (nI j))]) hx hb dX11_carriage_37 hl (by decide) rfl (fun ls hl => ?_)
  refine w_loop (α := Nat × Nat × Option Nat) (nL := 7) 39 (fun a_ => [(0, .ref (c 0)), (1, .int (nI j)), (2, .int (nI a_.2.1)), (3, .int (oI a_.2.2)), (4, .int (nI a_.1))]) (fun a_ => a_.1 ≤ j + 1 ∧ a_.2.1 < 2 ^ S.str ∧ (a_.1 ≤ j → cmpF S (S.ppl - a_.1) a_.1 a_.2.1 j = cmpF S S.ppl 0 0 j) ∧ (j < a_.1 → a_.2.2 = cmpF S S.ppl 0 0 j)) (fun a_ => j + 1 - a_.1) ?_ (0, 0, none) (⟨Nat.zero_le _, nz, fun _ => rfl, fun h => absurd h (Nat.not_lt_zero _)⟩) ls (lv_sub hl [3, 4, 2, 1, 0] rfl)
  rintro ⟨i, tk, r⟩ hi ih ls hl
  have hi : i ≤ j + 1 ∧ tk < 2 ^ S.str ∧ (i ≤ j → cmpF S (S.ppl - i) i tk j = cmpF S S.ppl 0 0 j) ∧ (j < i → r = cmpF S S.ppl 0 0 j) := hi
  have hl : lv_has ls 7 [(0, .ref (c 0)), (1, .int (nI j)), (2, .int (nI tk)), (3, .int (oI r)), (4, .int (nI i))] := hl
  obtain ⟨hi1, htk, hc1, hc2⟩ := hi
  refine lv_iload hx hb dX11_carriage_39 (lv_at hl 4 rfl) ?_
  refine lv_iload_n hx hb dX11_carriage_41 rfl (lv_at hl 1 rfl) ?_
  refine n_icmp_gt (tgt := 168) hx hb dX11_carriage_42 (by decide) (by omega) (by omega) (fun h4 => ?_) (fun h4 => ?_)
  · refine lv_iload_n hx hb dX11_carriage_168 rfl (lv_at hl 3 rfl) ?_
    exact h_iret (V := fun J' => cellsM y c J') (J.mMost' M) hx hb hr hlocks hC hP hD hS (⟨by rw [ansCar, if_neg h1, if_pos gj, idx_nI (by omega), hc2 (by omega)], hO1⟩) dX11_carriage_169
  obtain ⟨n, hn⟩ : ∃ n, S.ppl = i + 1 + n := ⟨S.ppl - (i + 1), by omega⟩
  have hM1 : ∀ u, u < 2 ^ S.str → M (512 * (i + 1) + u) = nI (mstN S n (i + 1) u) := fun u hu => by
      have := hM (i + 1) (by omega) u hu
      rw [show S.ppl - (i + 1) = n by omega] at this; exact this
  have hM0 : ∀ u, u < 2 ^ S.str → M (512 * i + u) = nI (mstN S (n + 1) i u) := fun u hu => by
      have := hM i (by omega) u hu
      rw [show S.ppl - i = n + 1 by omega] at this; exact this
  have hc3 := hc1 (by omega)
  rw [show S.ppl - i = n + 1 by omega, cmpF_s] at hc3
  have ih0 := ih
  refine lv_bipush (v := (-9)) hx hb dX11_carriage_45 (by decide) ?_
  refine lv_istore_n (lv' := [(3, .int (-9)), (0, .ref (c 0)), (1, .int (nI j)), (2, .int (nI tk)), (4, .int (nI i))]) hx hb dX11_carriage_47 rfl hl (by decide) rfl (fun ls hl => ?_)
  refine lv_aload_n hx hb dX11_carriage_48 rfl (lv_at hl 1 rfl) ?_
  refine va_get (D := D) (ci := 11) (v := .ref (c 3)) (C := RX11) (T := TX11) (N := 26) hx hb hts in_X11 hown hK hP 0 rfl rfl 3 (by decide) (hts _ q828) (fun _ h9 => h9) rfl dX11_carriage_49 ?_
  refine lv_iconst (v := nI 0) hx hb dX11_carriage_52 (by decide) ?_
  refine n_iald (v := nI S.str) hx hb hK hP 3 0 rfl rfl (j := 0) (by omega) (by decide) (hO1.str) dX11_carriage_53 ?_
  refine lv_iconst (v := nI 1) hx hb dX11_carriage_54 (by decide) ?_
  refine lv_isub hx hb dX11_carriage_55 ?_
  refine n_top (y := dn S.str) (dn_sub _) ?_
  refine lv_istore (lv' := [(5, .int (dn S.str)), (3, .int (-9)), (0, .ref (c 0)), (1, .int (nI j)), (2, .int (nI tk)), (4, .int (nI i))]) hx hb dX11_carriage_56 hl (by decide) rfl (fun ls hl => ?_)
  refine w_loop (α := Nat × Option Nat) (nL := 7) 58 (fun a_ => [(0, .ref (c 0)), (1, .int (nI j)), (2, .int (nI tk)), (3, .int (oI a_.2)), (4, .int (nI i)), (5, .int (dn a_.1))]) (fun a_ => a_.1 ≤ S.str ∧ FstIn (chP S n i tk) a_.1 S.str a_.2) (fun a_ => a_.1) ?_ (S.str, none) (⟨Nat.le_refl _, show FstIn (chP S n i tk) S.str S.str none from fun v h1 h2 => by omega⟩) ls (lv_sub hl [2, 3, 4, 1, 5, 0] rfl)
  rintro ⟨q, r⟩ hf ih ls hl
  have hf : q ≤ S.str ∧ FstIn (chP S n i tk) q S.str r := hf
  have hl : lv_has ls 7 [(0, .ref (c 0)), (1, .int (nI j)), (2, .int (nI tk)), (3, .int (oI r)), (4, .int (nI i)), (5, .int (dn q))] := hl
  obtain ⟨hq, hf⟩ := hf
  refine lv_iload hx hb dX11_carriage_58 (lv_at hl 5 rfl) ?_
  refine lv_if_lt (tgt := 146) hx hb dX11_carriage_60 (by decide) (fun h5 => ?_) (fun h5 => ?_)
  · have h6 := (dn_neg (by omega)).mp h5
    subst h6
    have hch : chF S n i tk = r := (fstP_is _ _).uniq hf
    rw [hch] at hc3
    have ih := ih0
    rcases r with _ | sg
    · refine lv_iload_n hx hb dX11_carriage_146 rfl (lv_at hl 2 rfl) ?_
      refine lv_iload_n hx hb dX11_carriage_147 rfl (lv_at hl 3 rfl) ?_
      refine lv_bipush (v := (-9)) hx hb dX11_carriage_148 (by decide) ?_
      refine lv_icmp_ne (tgt := 157) hx hb dX11_carriage_150 (by decide) (fun h7 => ?_) (fun h7 => ?_)
      · exact absurd rfl h7
      refine lv_iconst (v := nI 0) hx hb dX11_carriage_153 (by decide) ?_
      refine lv_goto (tgt := 160) hx hb dX11_carriage_154 (by decide) ?_
      refine n_or hx hb dX11_carriage_160 ?_
      refine lv_istore_n (lv' := [(2, .int (nI (tk ||| 0))), (0, .ref (c 0)), (1, .int (nI j)), (3, .int (oI r)), (4, .int (nI i)), (5, .int (dn q))]) hx hb dX11_carriage_161 rfl hl (by decide) rfl (fun ls hl => ?_)
      refine lv_iinc (v := nI (i + 1)) (lv' := [(4, .int (nI (i + 1))), (2, .int (nI (tk ||| 0))), (0, .ref (c 0)), (1, .int (nI j)), (3, .int (oI r)), (5, .int (dn q))]) hx hb dX11_carriage_162 hl (k := 4) rfl (nI_inc _) (by decide) rfl (fun ls hl => ?_)
      refine lv_goto (tgt := 39) hx hb dX11_carriage_165 (by decide) ?_
      exact ih (i + 1, tk ||| 0, none) (⟨by dsimp only; omega, by show tk ||| 0 < _; rw [Nat.or_zero]; exact htk, fun hh => by
          have hh : i + 1 ≤ j := hh
          rw [if_neg (by omega)] at hc3
          rw [← hc3, show S.ppl - (i + 1) = n by omega]; rfl, fun hh => by
          have hh : j < i + 1 := hh
          rw [if_pos (by omega)] at hc3; exact hc3⟩) (by dsimp only; omega) ls (lv_sub hl [2, 3, 1, 4, 0] rfl)
    · have s9 : sg < S.str := hf.2.1
      have hl : lv_has ls 7 [(0, .ref (c 0)), (1, .int (nI j)), (2, .int (nI tk)), (3, .int (nI sg)), (4, .int (nI i)), (5, .int (dn q))] := hl
      refine lv_iload_n hx hb dX11_carriage_146 rfl (lv_at hl 2 rfl) ?_
      refine lv_iload_n hx hb dX11_carriage_147 rfl (lv_at hl 3 rfl) ?_
      refine lv_bipush (v := (-9)) hx hb dX11_carriage_148 (by decide) ?_
      refine lv_icmp_ne (tgt := 157) hx hb dX11_carriage_150 (by decide) (fun h7 => ?_) (fun h7 => ?_)
      rotate_left
      · exact absurd h7 (nI_ne9 (by omega))
      refine lv_iconst (v := nI 1) hx hb dX11_carriage_157 (by decide) ?_
      refine lv_iload_n hx hb dX11_carriage_158 rfl (lv_at hl 3 rfl) ?_
      refine n_shl1 hx hb dX11_carriage_159 (by omega) ?_
      refine n_or hx hb dX11_carriage_160 ?_
      refine lv_istore_n (lv' := [(2, .int (nI (tk ||| (2 ^ sg)))), (0, .ref (c 0)), (1, .int (nI j)), (3, .int (nI sg)), (4, .int (nI i)), (5, .int (dn q))]) hx hb dX11_carriage_161 rfl hl (by decide) rfl (fun ls hl => ?_)
      refine lv_iinc (v := nI (i + 1)) (lv' := [(4, .int (nI (i + 1))), (2, .int (nI (tk ||| (2 ^ sg)))), (0, .ref (c 0)), (1, .int (nI j)), (3, .int (nI sg)), (5, .int (dn q))]) hx hb dX11_carriage_162 hl (k := 4) rfl (nI_inc _) (by decide) rfl (fun ls hl => ?_)
      refine lv_goto (tgt := 39) hx hb dX11_carriage_165 (by decide) ?_
      have hl : lv_has ls 7 [(4, .int (nI (i + 1))), (2, .int (nI (tk ||| (2 ^ sg)))), (0, .ref (c 0)), (1, .int (nI j)), (3, .int (oI (some sg))), (5, .int (dn q))] := hl
      exact ih (i + 1, tk ||| 2 ^ sg, some sg) (⟨by dsimp only; omega, Nat.or_lt_two_pow htk (Nat.pow_lt_pow_right (by omega) s9), fun hh => by
          have hh : i + 1 ≤ j := hh
          rw [if_neg (by omega)] at hc3
          rw [← hc3, show S.ppl - (i + 1) = n by omega]; rfl, fun hh => by
          have hh : j < i + 1 := hh
          rw [if_pos (by omega)] at hc3; exact hc3⟩) (by dsimp only; omega) ls (lv_sub hl [2, 3, 1, 4, 0] rfl)
  obtain ⟨k, rfl⟩ : ∃ k, q = k + 1 := ⟨q - 1, by have h6 := mt (dn_neg (by omega)).mpr h5; omega⟩
  rw [dn_s] at hl
  have hl : lv_has ls 7 [(0, .ref (c 0)), (1, .int (nI j)), (2, .int (nI tk)), (3, .int (oI r)), (4, .int (nI i)), (5, .int (nI k))] := hl
  have hw : tk ||| 2 ^ k < 2 ^ S.str := Nat.or_lt_two_pow htk (Nat.pow_lt_pow_right (by omega) (by omega))
  have b1 := mstN_le S (n + 1) i tk
  have b2 := mstN_le S n (i + 1) (tk ||| 2 ^ k)
  refine n_cut 88 [.int (zb (okC S i tk k))] (fun K => ?_) ?_
  · refine lv_iload_n hx hb dX11_carriage_63 rfl (lv_at hl 2 rfl) ?_
    refine lv_iload hx hb dX11_carriage_64 (lv_at hl 5 rfl) ?_
    refine va_callR (va_runS (As := [.int (nI tk), .int (nI k)]) (rest := []) ⟨hx, hb, hml, hown, hts⟩ (m_X11_has l tk k (by omega) (by omega)) (va_cwS 2 hts (lw_S q1034 q1035 q65 q1036) rfl rfl rfl hd_X11_has ⟨Nat.le_of_ble_eq_true rfl, Nat.le_of_ble_eq_true rfl⟩) pre0 rfl rfl hl.1 rfl (lv_room (Nat.le_of_ble_eq_true rfl)) dX11_carriage_66 ⟨Nat.le_of_ble_eq_true rfl, Nat.le_of_ble_eq_true rfl⟩) ?_
    refine z_if_ne (tgt := 87) hx hb dX11_carriage_69 (by decide) (fun h6 => ?_) (fun h6 => ?_)
    · refine lv_iconst (v := nI 0) hx hb dX11_carriage_87 (by decide) ?_
      exact n_top (by rw [okC_has h6]; decide) K
    refine lv_aload_n hx hb dX11_carriage_72 rfl (lv_at hl 0 rfl) ?_
    refine lv_iload hx hb dX11_carriage_73 (lv_at hl 4 rfl) ?_
    refine lv_iload hx hb dX11_carriage_75 (lv_at hl 5 rfl) ?_
    refine va_callR (va_runV (As := [.int (nI i), .int (nI k)]) (rest := []) ⟨hx, hb, hml, hown, hts⟩ (m_X11_canHave l D y c (J.mMost' M) S hI hO1 i k (by omega) (by omega)) (cwV 2 hts (lw_V q1065 q1067 qs50 q65 q1068) rfl rfl rfl ⟨rfl, hd_X11_canHave⟩ ⟨Nat.le_of_ble_eq_true rfl, Nat.le_of_ble_eq_true rfl⟩) (preVR hC hP 11 0 rfl rfl) rfl rfl hl.1 rfl (lv_room (Nat.le_of_ble_eq_true rfl)) dX11_carriage_77 ⟨Nat.le_of_ble_eq_true rfl, Nat.le_of_ble_eq_true rfl⟩) ?_
    refine z_if_eq (tgt := 87) hx hb dX11_carriage_80 (by decide) (fun h7 => ?_) (fun h7 => ?_)
    · refine lv_iconst (v := nI 0) hx hb dX11_carriage_87 (by decide) ?_
      exact n_top (by rw [okC_can h6, h7]; decide) K
    refine lv_iconst (v := nI 1) hx hb dX11_carriage_83 (by decide) ?_
    refine lv_goto (tgt := 88) hx hb dX11_carriage_84 (by decide) ?_
    exact n_top (by rw [okC_can h6, h7]; decide) K
  refine lv_istore (lv' := [(6, .int (zb (okC S i tk k))), (0, .ref (c 0)), (1, .int (nI j)), (2, .int (nI tk)), (3, .int (oI r)), (4, .int (nI i)), (5, .int (nI k))]) hx hb dX11_carriage_88 hl (by decide) rfl (fun ls hl => ?_)
  refine lv_iload hx hb dX11_carriage_90 (lv_at hl 0 rfl) ?_
  refine z_if_eq (tgt := 138) hx hb dX11_carriage_92 (by decide) (fun h8 => ?_) (fun h8 => ?_)
  · refine lv_iload_n hx hb dX11_carriage_138 rfl (lv_at hl 4 rfl) ?_
    refine lv_istore_n (lv' := [(3, .int (oI r)), (6, .int (zb (okC S i tk k))), (0, .ref (c 0)), (1, .int (nI j)), (2, .int (nI tk)), (4, .int (nI i)), (5, .int (nI k))]) hx hb dX11_carriage_139 rfl hl (by decide) rfl (fun ls hl => ?_)
    refine lv_iinc (v := dn k) (lv' := [(5, .int (dn k)), (3, .int (oI r)), (6, .int (zb (okC S i tk k))), (0, .ref (c 0)), (1, .int (nI j)), (2, .int (nI tk)), (4, .int (nI i))]) hx hb dX11_carriage_140 hl (k := 6) rfl (rfl) (by decide) rfl (fun ls hl => ?_)
    refine lv_goto (tgt := 58) hx hb dX11_carriage_143 (by decide) ?_
    exact ih (k, r) (⟨by dsimp only; omega, hf.miss (by unfold chP; rw [h8]; rfl)⟩) (by dsimp only; omega) ls (lv_sub hl [3, 4, 5, 1, 6, 0] rfl)
  refine lv_iconst (v := nI 1) hx hb dX11_carriage_95 (by decide) ?_
  refine lv_aload_n hx hb dX11_carriage_96 rfl (lv_at hl 1 rfl) ?_
  refine va_get (D := D) (ci := 11) (v := .ref (c 15)) (C := RX11) (T := TX11) (N := 26) hx hb hts in_X11 hown hK hP 0 rfl rfl 21 (by decide) (hts _ q846) (fun _ h9 => h9) rfl dX11_carriage_97 ?_
  refine lv_sipush (v := nI 512) hx hb dX11_carriage_100 (by decide) ?_
  refine lv_iload hx hb dX11_carriage_103 (lv_at hl 5 rfl) ?_
  refine lv_iconst (v := nI 1) hx hb dX11_carriage_105 (by decide) ?_
  refine n_add hx hb dX11_carriage_106 ?_
  refine n_mul hx hb dX11_carriage_107 ?_
  refine lv_iload_n hx hb dX11_carriage_108 rfl (lv_at hl 3 rfl) ?_
  refine lv_iconst (v := nI 1) hx hb dX11_carriage_109 (by decide) ?_
  refine lv_iload hx hb dX11_carriage_110 (lv_at hl 6 rfl) ?_
  refine n_shl1 hx hb dX11_carriage_112 (by omega) ?_
  refine n_or hx hb dX11_carriage_113 ?_
  refine n_add hx hb dX11_carriage_114 ?_
  refine n_iald (v := nI (mstN S n (i + 1) (tk ||| 2 ^ k))) hx hb hK hP 15 0 rfl rfl (j := (512 * (i + 1) + (tk ||| (2 ^ k)))) (by omega) (by decide) (hM1 (tk ||| 2 ^ k) hw) dX11_carriage_115 ?_
  refine n_add hx hb dX11_carriage_116 ?_
  refine lv_aload_n hx hb dX11_carriage_117 rfl (lv_at hl 1 rfl) ?_
  refine va_get (D := D) (ci := 11) (v := .ref (c 15)) (C := RX11) (T := TX11) (N := 26) hx hb hts in_X11 hown hK hP 0 rfl rfl 21 (by decide) (hts _ q846) (fun _ h9 => h9) rfl dX11_carriage_118 ?_
  refine lv_sipush (v := nI 512) hx hb dX11_carriage_121 (by decide) ?_
  refine lv_iload hx hb dX11_carriage_124 (lv_at hl 5 rfl) ?_
  refine n_mul hx hb dX11_carriage_126 ?_
  refine lv_iload_n hx hb dX11_carriage_127 rfl (lv_at hl 3 rfl) ?_
  refine n_add hx hb dX11_carriage_128 ?_
  refine n_iald (v := nI (mstN S (n + 1) i tk)) hx hb hK hP 15 0 rfl rfl (j := (512 * i + tk)) (by omega) (by decide) (hM0 tk htk) dX11_carriage_129 ?_
  refine n_icmp_ne (tgt := 138) hx hb dX11_carriage_130 (by decide) (by omega) (by omega) (fun h9 => ?_) (fun h9 => ?_)
  · refine lv_iload_n hx hb dX11_carriage_138 rfl (lv_at hl 4 rfl) ?_
    refine lv_istore_n (lv' := [(3, .int (oI r)), (6, .int (zb (okC S i tk k))), (0, .ref (c 0)), (1, .int (nI j)), (2, .int (nI tk)), (4, .int (nI i)), (5, .int (nI k))]) hx hb dX11_carriage_139 rfl hl (by decide) rfl (fun ls hl => ?_)
    refine lv_iinc (v := dn k) (lv' := [(5, .int (dn k)), (3, .int (oI r)), (6, .int (zb (okC S i tk k))), (0, .ref (c 0)), (1, .int (nI j)), (2, .int (nI tk)), (4, .int (nI i))]) hx hb dX11_carriage_140 hl (k := 6) rfl (rfl) (by decide) rfl (fun ls hl => ?_)
    refine lv_goto (tgt := 58) hx hb dX11_carriage_143 (by decide) ?_
    exact ih (k, r) (⟨by dsimp only; omega, hf.miss (by unfold chP; rw [decide_eq_false h9]; exact Bool.and_false _)⟩) (by dsimp only; omega) ls (lv_sub hl [3, 4, 5, 1, 6, 0] rfl)
  refine lv_iload hx hb dX11_carriage_133 (lv_at hl 6 rfl) ?_
  refine lv_goto (tgt := 139) hx hb dX11_carriage_135 (by decide) ?_
  refine lv_istore_n (lv' := [(3, .int (nI k)), (6, .int (zb (okC S i tk k))), (0, .ref (c 0)), (1, .int (nI j)), (2, .int (nI tk)), (4, .int (nI i)), (5, .int (nI k))]) hx hb dX11_carriage_139 rfl hl (by decide) rfl (fun ls hl => ?_)
  refine lv_iinc (v := dn k) (lv' := [(5, .int (dn k)), (3, .int (nI k)), (6, .int (zb (okC S i tk k))), (0, .ref (c 0)), (1, .int (nI j)), (2, .int (nI tk)), (4, .int (nI i))]) hx hb dX11_carriage_140 hl (k := 6) rfl (rfl) (by decide) rfl (fun ls hl => ?_)
  refine lv_goto (tgt := 58) hx hb dX11_carriage_143 (by decide) ?_
  have hl : lv_has ls 7 [(5, .int (dn k)), (3, .int (oI (some k))), (6, .int (zb (okC S i tk k))), (0, .ref (c 0)), (1, .int (nI j)), (2, .int (nI tk)), (4, .int (nI i))] := hl
  exact ih (k, some k) (⟨by dsimp only; omega, FstIn.hit (by omega) (by unfold chP; rw [h8, decide_eq_true h9]; rfl)⟩) (by dsimp only; omega) ls (lv_sub hl [3, 4, 5, 1, 6, 0] rfl)
