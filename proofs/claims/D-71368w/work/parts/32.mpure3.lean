/-! model: methods that only read, 3 -/
set_option maxRecDepth 100000
theorem hd_X11_flow : yX11_flow.cls ≠ "java/lang/invoke/MethodHandle" ∧ yX11_flow.cls ≠ "java/lang/invoke/VarHandle" ∧ (parseMethodDescriptor yX11_flow.desc).map (fun d => d.parameters.length) = some 3 := by decide +kernel
/-- X11_flow -/
theorem m_X11_flow (l : Launch) (D : va_G) (y : Nat → ClassId) (c : Nat → Nat) (J : MJ) (S : St) (hI : StOk S) (hO : MOk S J) (a b w : Int32) : Met l yX11_flow (ws_ yX11_flow cX11_flow 10 (some .int)) ({ frames := 3, cells := 0, slots := 0, locals := 65 }) (va_Pc [.ref (c 0), .int a, .int b, .int w] (WR D y (cellsM y c J))) (QcRead (ansFlow S a b w)) 0 0 (fun _ => False) := by
  refine x_start (by decide) (Nat.le_of_ble_eq_true rfl) ?_
  intro p e s m below meth cd ls hx hb hr hts hml hown hlocks hnm hB hl
  have hC := hB.1
  obtain ⟨⟨hK, hN⟩, hP⟩ := hB
  have hown : s.vm.findClass RX11 = some m.cls := hown
  have hl : lv_has ls 10 [(0, .ref (c 0)), (1, .int a), (2, .int b), (3, .int w)] := hl
  have i1 := hI.str
  have i0 := hI.yds
  have i2 := p512 i1
  have i3 := Nat.two_pow_pos S.str
  refine lv_aload_n hx hb dX11_flow_0 rfl (lv_at hl 0 rfl) ?_
  refine lv_iload_n hx hb dX11_flow_1 rfl (lv_at hl 1 rfl) ?_
  refine lv_iload_n hx hb dX11_flow_2 rfl (lv_at hl 2 rfl) ?_
  refine va_callR (va_runV (As := [.int a, .int b]) (rest := []) ⟨hx, hb, hml, hown, hts⟩ (m_X11_areTwo l D y c J S hI hO a b) (cwV 2 hts (lw_V q1018 q1020 qs44 q65 q1021) rfl rfl rfl ⟨rfl, hd_X11_areTwo⟩ ⟨Nat.le_of_ble_eq_true rfl, Nat.le_of_ble_eq_true rfl⟩) (preVR hC hP 11 0 rfl rfl) rfl rfl hl.1 rfl (lv_room (Nat.le_of_ble_eq_true rfl)) dX11_flow_3 ⟨Nat.le_of_ble_eq_true rfl, Nat.le_of_ble_eq_true rfl⟩) ?_
  refine z_if_eq (tgt := 18) hx hb dX11_flow_6 (by decide) (fun h1 => ?_) (fun h1 => ?_)
  · refine lv_iconst (v := (-1)) hx hb dX11_flow_18 (by decide) ?_
    exact n_iret (Qc := fun _ _ _ _ => True) hx hb hr hlocks (by rw [ansFlow, if_neg (bnf h1)]) dX11_flow_19
  have h0 := h1
  obtain ⟨i, j, hi, hj, hij, rfl, rfl⟩ := arY_of hI h1
  refine lv_iload_n hx hb dX11_flow_9 rfl (lv_at hl 3 rfl) ?_
  refine lv_iconst (v := nI 0) hx hb dX11_flow_10 (by decide) ?_
  refine lv_iconst (v := nI 1) hx hb dX11_flow_11 (by decide) ?_
  refine va_callR (va_runS (As := [.int w, .int (nI 0), .int (nI 1)]) (rest := []) ⟨hx, hb, hml, hown, hts⟩ (m_X11_in l w (nI 0) (nI 1)) (va_cwS 3 hts (lw_S q908 q909 q65 q910) rfl rfl rfl hd_X11_in ⟨Nat.le_of_ble_eq_true rfl, Nat.le_of_ble_eq_true rfl⟩) pre0 rfl rfl hl.1 rfl (lv_room (Nat.le_of_ble_eq_true rfl)) dX11_flow_12 ⟨Nat.le_of_ble_eq_true rfl, Nat.le_of_ble_eq_true rfl⟩) ?_
  refine z_if_ne (tgt := 20) hx hb dX11_flow_15 (by decide) (fun h2 => ?_) (fun h2 => ?_)
  rotate_left
  · refine lv_iconst (v := (-1)) hx hb dX11_flow_18 (by decide) ?_
    exact n_iret (Qc := fun _ _ _ _ => True) hx hb hr hlocks (by rw [ansFlow, if_pos h0, if_neg (bnf h2)]) dX11_flow_19
  have h3 := h2
  obtain ⟨t, ht1, ht2, rfl⟩ := inI_of (by omega) (by omega) h2
  refine lv_aload_n hx hb dX11_flow_20 rfl (lv_at hl 0 rfl) ?_
  refine lv_iconst (v := nI 0) hx hb dX11_flow_21 (by decide) ?_
  refine va_callR (va_runV (As := [.int (nI 0)]) (rest := []) ⟨hx, hb, hml, hown, hts⟩ (m_X11_openBy l D y c J S hI hO 0 (by omega)) (cwV 1 hts (lw_V q1026 q1028 qs46 q65 q1029) rfl rfl rfl ⟨rfl, hd_X11_openBy⟩ ⟨Nat.le_of_ble_eq_true rfl, Nat.le_of_ble_eq_true rfl⟩) (preVR hC hP 11 0 rfl rfl) rfl rfl hl.1 rfl (lv_room (Nat.le_of_ble_eq_true rfl)) dX11_flow_22 ⟨Nat.le_of_ble_eq_true rfl, Nat.le_of_ble_eq_true rfl⟩) ?_
  refine n_top (y := nI (2 ^ S.str - 1)) (congrArg nI wide0) ?_
  refine lv_istore (lv' := [(4, .int (nI (2 ^ S.str - 1))), (0, .ref (c 0)), (1, .int (nI i)), (2, .int (nI j)), (3, .int (nI t))]) hx hb dX11_flow_25 hl (by decide) rfl (fun ls hl => ?_)
  refine lv_bipush (v := (-9)) hx hb dX11_flow_27 (by decide) ?_
  refine lv_istore (lv' := [(5, .int (-9)), (4, .int (nI (2 ^ S.str - 1))), (0, .ref (c 0)), (1, .int (nI i)), (2, .int (nI j)), (3, .int (nI t))]) hx hb dX11_flow_29 hl (by decide) rfl (fun ls hl => ?_)
  refine lv_iconst (v := nI 0) hx hb dX11_flow_31 (by decide) ?_
  refine lv_istore (lv' := [(6, .int (nI 0)), (5, .int (-9)), (4, .int (nI (2 ^ S.str - 1))), (0, .ref (c 0)), (1, .int (nI i)), (2, .int (nI j)), (3, .int (nI t))]) hx hb dX11_flow_32 hl (by decide) rfl (fun ls hl => ?_)
  refine lv_iconst (v := nI 0) hx hb dX11_flow_34 (by decide) ?_
  refine lv_istore (lv' := [(7, .int (nI 0)), (6, .int (nI 0)), (5, .int (-9)), (4, .int (nI (2 ^ S.str - 1))), (0, .ref (c 0)), (1, .int (nI i)), (2, .int (nI j)), (3, .int (nI t))]) hx hb dX11_flow_35 hl (by decide) rfl (fun ls hl => ?_)
  refine w_loop (nL := 10) 37 (fun k => [(0, .ref (c 0)), (1, .int (nI i)), (2, .int (nI j)), (3, .int (nI t)), (4, .int (nI (2 ^ S.str - 1))), (5, .int (oI (flP S i j k).1)), (6, .int (nI ((flP S i j k).2))), (7, .int (nI k))]) (fun k => k ≤ 2 ^ S.str) (fun k => 2 ^ S.str - k) ?_ 0 (Nat.zero_le _) ls (lv_sub hl [4, 5, 6, 7, 3, 2, 1, 0] rfl)
  rintro k hk ih ls hl
  have hl : lv_has ls 10 [(0, .ref (c 0)), (1, .int (nI i)), (2, .int (nI j)), (3, .int (nI t)), (4, .int (nI (2 ^ S.str - 1))), (5, .int (oI (flP S i j k).1)), (6, .int (nI ((flP S i j k).2))), (7, .int (nI k))] := hl
  refine lv_iload hx hb dX11_flow_37 (lv_at hl 7 rfl) ?_
  refine lv_iload hx hb dX11_flow_39 (lv_at hl 4 rfl) ?_
  refine n_icmp_gt (tgt := 130) hx hb dX11_flow_41 (by decide) (by omega) (by omega) (fun h4 => ?_) (fun h4 => ?_)
  · have e9 : k = 2 ^ S.str := by omega
    refine lv_iload_n hx hb dX11_flow_130 rfl (lv_at hl 3 rfl) ?_
    refine n_if_ne (tgt := 139) hx hb dX11_flow_131 (by decide) (by omega) (fun h5 => ?_) (fun h5 => ?_)
    rotate_left
    · refine lv_iload hx hb dX11_flow_134 (lv_at hl 6 rfl) ?_
      refine lv_goto (tgt := 141) hx hb dX11_flow_136 (by decide) ?_
      exact n_iret (Qc := fun _ _ _ _ => True) hx hb hr hlocks (by rw [ansFlow, if_pos h0, if_pos h3, h5, if_pos rfl, idx_nI (by omega), idx_nI (by omega), e9]) dX11_flow_141
    refine lv_iload hx hb dX11_flow_139 (lv_at hl 5 rfl) ?_
    exact n_iret (Qc := fun _ _ _ _ => True) hx hb hr hlocks (by rw [ansFlow, if_pos h0, if_pos h3, if_neg (by rw [nI_eq (by omega) (by omega)]; exact h5), idx_nI (by omega), idx_nI (by omega), e9]) dX11_flow_141
  have s1 := sumF_le hI (set := k) S.str (Nat.le_refl _)
  have m1 := flP_le hI (a := i) (b := j) k
  have u1 := fun u => flP_lt (S := S) (a := i) (b := j) (u := u) k
  have a1 := andn_le (2 ^ S.str - 1) k
  refine lv_aload_n hx hb dX11_flow_44 rfl (lv_at hl 0 rfl) ?_
  refine lv_iload hx hb dX11_flow_45 (lv_at hl 7 rfl) ?_
  refine va_callR (va_runV (As := [.int (nI k)]) (rest := []) ⟨hx, hb, hml, hown, hts⟩ (m_X11_widthsOf l D y c J S hI hO k (by omega)) (cwV 1 hts (lw_V q1045 q1047 qs48 q65 q1048) rfl rfl rfl ⟨rfl, hd_X11_widthsOf⟩ ⟨Nat.le_of_ble_eq_true rfl, Nat.le_of_ble_eq_true rfl⟩) (preVR hC hP 11 0 rfl rfl) rfl rfl hl.1 rfl (lv_room (Nat.le_of_ble_eq_true rfl)) dX11_flow_47 ⟨Nat.le_of_ble_eq_true rfl, Nat.le_of_ble_eq_true rfl⟩) ?_
  refine lv_istore (lv' := [(8, .int (nI (sumF S k S.str))), (0, .ref (c 0)), (1, .int (nI i)), (2, .int (nI j)), (3, .int (nI t)), (4, .int (nI (2 ^ S.str - 1))), (5, .int (oI (flP S i j k).1)), (6, .int (nI ((flP S i j k).2))), (7, .int (nI k))]) hx hb dX11_flow_50 hl (by decide) rfl (fun ls hl => ?_)
  have hst : flP S i j (k + 1) = if (betF S (flP S i j k).1 (flP S i j k).2 k && dis S i j k) = true then (some k, sumF S k S.str) else (flP S i j k) := rfl
  generalize hr : flP S i j k = rm at hl m1 u1 hst
  obtain ⟨r, mm⟩ := rm
  dsimp only at hl m1 u1 hst
  have hl : lv_has ls 10 [(8, .int (nI (sumF S k S.str))), (0, .ref (c 0)), (1, .int (nI i)), (2, .int (nI j)), (3, .int (nI t)), (4, .int (nI (2 ^ S.str - 1))), (5, .int (oI r)), (6, .int (nI mm)), (7, .int (nI k))] := hl
  refine n_cut 91 [.int (zb (betF S r mm k))] (fun K => ?_) ?_
  · rcases r with _ | u
    · have hl : lv_has ls 10 [(8, .int (nI (sumF S k S.str))), (0, .ref (c 0)), (1, .int (nI i)), (2, .int (nI j)), (3, .int (nI t)), (4, .int (nI (2 ^ S.str - 1))), (5, .int (-9)), (6, .int (nI mm)), (7, .int (nI k))] := hl
      refine lv_iload hx hb dX11_flow_52 (lv_at hl 6 rfl) ?_
      refine lv_bipush (v := (-9)) hx hb dX11_flow_54 (by decide) ?_
      refine lv_icmp_eq (tgt := 86) hx hb dX11_flow_56 (by decide) (fun h8 => ?_) (fun h8 => ?_)
      · refine lv_iconst (v := nI 1) hx hb dX11_flow_86 (by decide) ?_
        refine lv_goto (tgt := 91) hx hb dX11_flow_87 (by decide) ?_
        exact K
      exact absurd rfl h8
    have hl : lv_has ls 10 [(8, .int (nI (sumF S k S.str))), (0, .ref (c 0)), (1, .int (nI i)), (2, .int (nI j)), (3, .int (nI t)), (4, .int (nI (2 ^ S.str - 1))), (5, .int (nI u)), (6, .int (nI mm)), (7, .int (nI k))] := hl
    have hu : u < 512 := by have := u1 u rfl; omega
    refine lv_iload hx hb dX11_flow_52 (lv_at hl 6 rfl) ?_
    refine lv_bipush (v := (-9)) hx hb dX11_flow_54 (by decide) ?_
    refine lv_icmp_eq (tgt := 86) hx hb dX11_flow_56 (by decide) (fun h8 => ?_) (fun h8 => ?_)
    · exact absurd h8 (nI_ne9 (by omega))
    refine lv_iload hx hb dX11_flow_59 (lv_at hl 0 rfl) ?_
    refine lv_iload hx hb dX11_flow_61 (lv_at hl 7 rfl) ?_
    refine n_icmp_lt (tgt := 86) hx hb dX11_flow_63 (by decide) (by omega) (by omega) (fun h9 => ?_) (fun h9 => ?_)
    · refine lv_iconst (v := nI 1) hx hb dX11_flow_86 (by decide) ?_
      refine lv_goto (tgt := 91) hx hb dX11_flow_87 (by decide) ?_
      exact n_top (by rw [show betF S (some u) mm k = true by simp [betF, h9]]; decide) K
    refine lv_iload hx hb dX11_flow_66 (lv_at hl 0 rfl) ?_
    refine lv_iload hx hb dX11_flow_68 (lv_at hl 7 rfl) ?_
    refine n_icmp_ne (tgt := 90) hx hb dX11_flow_70 (by decide) (by omega) (by omega) (fun h10 => ?_) (fun h10 => ?_)
    · refine lv_iconst (v := nI 0) hx hb dX11_flow_90 (by decide) ?_
      exact n_top (by rw [show betF S (some u) mm k = false by simp [betF, h10]; omega]; decide) K
    have b1 := bits_10 k
    have b2 := bits_10 u
    refine lv_iload hx hb dX11_flow_73 (lv_at hl 8 rfl) ?_
    refine va_callR (va_runS (As := [.int (nI k)]) (rest := []) ⟨hx, hb, hml, hown, hts⟩ (m_X11_bitsOf l k (by omega)) (va_cwS 1 hts (lw_S q987 q988 q65 q989) rfl rfl rfl hd_X11_bitsOf ⟨Nat.le_of_ble_eq_true rfl, Nat.le_of_ble_eq_true rfl⟩) pre0 rfl rfl hl.1 rfl (lv_room (Nat.le_of_ble_eq_true rfl)) dX11_flow_75 ⟨Nat.le_of_ble_eq_true rfl, Nat.le_of_ble_eq_true rfl⟩) ?_
    refine lv_iload hx hb dX11_flow_78 (lv_at hl 6 rfl) ?_
    refine va_callR (va_runS (As := [.int (nI u)]) (rest := [.int (nI (bits k))]) ⟨hx, hb, hml, hown, hts⟩ (m_X11_bitsOf l u (by omega)) (va_cwS 1 hts (lw_S q987 q988 q65 q989) rfl rfl rfl hd_X11_bitsOf ⟨Nat.le_of_ble_eq_true rfl, Nat.le_of_ble_eq_true rfl⟩) pre0 rfl rfl hl.1 rfl (lv_room (Nat.le_of_ble_eq_true rfl)) dX11_flow_80 ⟨Nat.le_of_ble_eq_true rfl, Nat.le_of_ble_eq_true rfl⟩) ?_
    refine n_icmp_ge (tgt := 90) hx hb dX11_flow_83 (by decide) (by omega) (by omega) (fun h11 => ?_) (fun h11 => ?_)
    · refine lv_iconst (v := nI 0) hx hb dX11_flow_90 (by decide) ?_
      exact n_top (by rw [show betF S (some u) mm k = false by simp [betF]; omega]; decide) K
    refine lv_iconst (v := nI 1) hx hb dX11_flow_86 (by decide) ?_
    refine lv_goto (tgt := 91) hx hb dX11_flow_87 (by decide) ?_
    exact n_top (by rw [show betF S (some u) mm k = true by simp [betF]; omega]; decide) K
  refine lv_istore (lv' := [(9, .int (zb (betF S r mm k))), (8, .int (nI (sumF S k S.str))), (0, .ref (c 0)), (1, .int (nI i)), (2, .int (nI j)), (3, .int (nI t)), (4, .int (nI (2 ^ S.str - 1))), (5, .int (oI r)), (6, .int (nI mm)), (7, .int (nI k))]) hx hb dX11_flow_91 hl (by decide) rfl (fun ls hl => ?_)
  refine n_cutL (nL := 10) 124 [(0, .ref (c 0)), (1, .int (nI i)), (2, .int (nI j)), (3, .int (nI t)), (4, .int (nI (2 ^ S.str - 1))), (5, .int (oI (flP S i j (k + 1)).1)), (6, .int (nI ((flP S i j (k + 1)).2))), (7, .int (nI k))] [] (fun K => ?_) (fun ls hl => ?_)
  · rw [hst] at K
    refine lv_iload hx hb dX11_flow_93 (lv_at hl 0 rfl) ?_
    refine z_if_eq (tgt := 124) hx hb dX11_flow_95 (by decide) (fun h12 => ?_) (fun h12 => ?_)
    · rw [h12, Bool.false_and, if_neg (by decide)] at K
      exact K ls (lv_sub hl [2, 3, 4, 5, 6, 7, 8, 9] rfl)
    refine lv_aload_n hx hb dX11_flow_98 rfl (lv_at hl 2 rfl) ?_
    refine lv_iload_n hx hb dX11_flow_99 rfl (lv_at hl 3 rfl) ?_
    refine lv_iload_n hx hb dX11_flow_100 rfl (lv_at hl 4 rfl) ?_
    refine lv_iload hx hb dX11_flow_101 (lv_at hl 6 rfl) ?_
    refine lv_iload hx hb dX11_flow_103 (lv_at hl 9 rfl) ?_
    refine lv_iconst (v := (-1)) hx hb dX11_flow_105 (by decide) ?_
    refine lv_ixor hx hb dX11_flow_106 ?_
    refine lv_iand hx hb dX11_flow_107 ?_
    refine n_top (y := nI (andn (2 ^ S.str - 1) k)) (nI_andn) ?_
    refine va_callR (va_runV (As := [.int (nI i), .int (nI j), .int (nI (andn (2 ^ S.str - 1) k))]) (rest := []) ⟨hx, hb, hml, hown, hts⟩ (m_X11_wayBy l D y c J S hI hO i j (andn (2 ^ S.str - 1) k) (by omega) (by omega) (by omega)) (cwV 3 hts (lw_V q1030 q1032 qs47 q65 q1033) rfl rfl rfl ⟨rfl, hd_X11_wayBy⟩ ⟨Nat.le_of_ble_eq_true rfl, Nat.le_of_ble_eq_true rfl⟩) (preVR hC hP 11 0 rfl rfl) rfl rfl hl.1 rfl (lv_room (Nat.le_of_ble_eq_true rfl)) dX11_flow_108 ⟨Nat.le_of_ble_eq_true rfl, Nat.le_of_ble_eq_true rfl⟩) ?_
    refine lv_bipush (v := (-9)) hx hb dX11_flow_111 (by decide) ?_
    refine lv_icmp_ne (tgt := 124) hx hb dX11_flow_113 (by decide) (fun h13 => ?_) (fun h13 => ?_)
    · rw [show dis S i j k = false by simp [dis, comF, h13], Bool.and_false, if_neg (by decide)] at K
      exact K ls (lv_sub hl [2, 3, 4, 5, 6, 7, 8, 9] rfl)
    refine lv_iload hx hb dX11_flow_116 (lv_at hl 9 rfl) ?_
    refine lv_istore (lv' := [(5, .int (nI k)), (9, .int (zb (betF S r mm k))), (8, .int (nI (sumF S k S.str))), (0, .ref (c 0)), (1, .int (nI i)), (2, .int (nI j)), (3, .int (nI t)), (4, .int (nI (2 ^ S.str - 1))), (6, .int (nI mm)), (7, .int (nI k))]) hx hb dX11_flow_118 hl (by decide) rfl (fun ls hl => ?_)
    refine lv_iload hx hb dX11_flow_120 (lv_at hl 2 rfl) ?_
    refine lv_istore (lv' := [(6, .int (nI (sumF S k S.str))), (5, .int (nI k)), (9, .int (zb (betF S r mm k))), (8, .int (nI (sumF S k S.str))), (0, .ref (c 0)), (1, .int (nI i)), (2, .int (nI j)), (3, .int (nI t)), (4, .int (nI (2 ^ S.str - 1))), (7, .int (nI k))]) hx hb dX11_flow_122 hl (by decide) rfl (fun ls hl => ?_)
    rw [h12, show dis S i j k = true by simp [dis, comF, h13], Bool.and_true, if_pos rfl] at K
    exact K ls (lv_sub hl [4, 5, 6, 7, 8, 1, 0, 9] rfl)
  refine lv_iinc (v := nI (k + 1)) (lv' := [(7, .int (nI (k + 1))), (0, .ref (c 0)), (1, .int (nI i)), (2, .int (nI j)), (3, .int (nI t)), (4, .int (nI (2 ^ S.str - 1))), (5, .int (oI (flP S i j (k + 1)).1)), (6, .int (nI ((flP S i j (k + 1)).2)))]) hx hb dX11_flow_124 hl (k := 7) rfl (nI_inc _) (by decide) rfl (fun ls hl => ?_)
  refine lv_goto (tgt := 37) hx hb dX11_flow_127 (by decide) ?_
  exact ih (k + 1) (by omega) (by omega) ls (lv_sub hl [1, 2, 3, 4, 5, 6, 7, 0] rfl)
theorem hd_X11_odds : yX11_odds.cls ≠ "java/lang/invoke/MethodHandle" ∧ yX11_odds.cls ≠ "java/lang/invoke/VarHandle" ∧ (parseMethodDescriptor yX11_odds.desc).map (fun d => d.parameters.length) = some 4 := by decide +kernel
/-- X11_odds -/
theorem m_X11_odds (l : Launch) (D : va_G) (y : Nat → ClassId) (c : Nat → Nat) (J : MJ) (S : St) (hI : StOk S) (hO : MOk S J) (a b x w : Int32) : Met l yX11_odds (ws_ yX11_odds cX11_odds 11 (some .int)) ({ frames := 3, cells := 0, slots := 0, locals := 65 }) (va_Pc [.ref (c 0), .int a, .int b, .int x, .int w] (WR D y (cellsM y c J))) (QcRead (ansOdds S a b x w)) 0 0 (fun _ => False) := by
  refine x_start (by decide) (Nat.le_of_ble_eq_true rfl) ?_
  intro p e s m below meth cd ls hx hb hr hts hml hown hlocks hnm hB hl
  have hC := hB.1
  obtain ⟨⟨hK, hN⟩, hP⟩ := hB
  have hown : s.vm.findClass RX11 = some m.cls := hown
  have hl : lv_has ls 11 [(0, .ref (c 0)), (1, .int a), (2, .int b), (3, .int x), (4, .int w)] := hl
  have i1 := hI.str
  have i0 := hI.yds
  have i2 := p512 i1
  have i3 := Nat.two_pow_pos S.str
  refine lv_aload_n hx hb dX11_odds_0 rfl (lv_at hl 0 rfl) ?_
  refine lv_iload_n hx hb dX11_odds_1 rfl (lv_at hl 1 rfl) ?_
  refine lv_iload_n hx hb dX11_odds_2 rfl (lv_at hl 2 rfl) ?_
  refine va_callR (va_runV (As := [.int a, .int b]) (rest := []) ⟨hx, hb, hml, hown, hts⟩ (m_X11_areTwo l D y c J S hI hO a b) (cwV 2 hts (lw_V q1018 q1020 qs44 q65 q1021) rfl rfl rfl ⟨rfl, hd_X11_areTwo⟩ ⟨Nat.le_of_ble_eq_true rfl, Nat.le_of_ble_eq_true rfl⟩) (preVR hC hP 11 0 rfl rfl) rfl rfl hl.1 rfl (lv_room (Nat.le_of_ble_eq_true rfl)) dX11_odds_3 ⟨Nat.le_of_ble_eq_true rfl, Nat.le_of_ble_eq_true rfl⟩) ?_
  refine z_if_eq (tgt := 29) hx hb dX11_odds_6 (by decide) (fun h1 => ?_) (fun h1 => ?_)
  · refine lv_iconst (v := (-1)) hx hb dX11_odds_29 (by decide) ?_
    exact n_iret (Qc := fun _ _ _ _ => True) hx hb hr hlocks (by rw [ansOdds, if_neg (bnf h1)]) dX11_odds_30
  have h0 := h1
  obtain ⟨i, j, hi, hj, hij, rfl, rfl⟩ := arY_of hI h1
  refine lv_iload_n hx hb dX11_odds_9 rfl (lv_at hl 3 rfl) ?_
  refine lv_iconst (v := nI 0) hx hb dX11_odds_10 (by decide) ?_
  refine lv_bipush (v := nI 10) hx hb dX11_odds_11 (by decide) ?_
  refine va_callR (va_runS (As := [.int x, .int (nI 0), .int (nI 10)]) (rest := []) ⟨hx, hb, hml, hown, hts⟩ (m_X11_in l x (nI 0) (nI 10)) (va_cwS 3 hts (lw_S q908 q909 q65 q910) rfl rfl rfl hd_X11_in ⟨Nat.le_of_ble_eq_true rfl, Nat.le_of_ble_eq_true rfl⟩) pre0 rfl rfl hl.1 rfl (lv_room (Nat.le_of_ble_eq_true rfl)) dX11_odds_13 ⟨Nat.le_of_ble_eq_true rfl, Nat.le_of_ble_eq_true rfl⟩) ?_
  refine z_if_eq (tgt := 29) hx hb dX11_odds_16 (by decide) (fun h2 => ?_) (fun h2 => ?_)
  · refine lv_iconst (v := (-1)) hx hb dX11_odds_29 (by decide) ?_
    exact n_iret (Qc := fun _ _ _ _ => True) hx hb hr hlocks (by rw [ansOdds, if_pos h0, if_neg (bnf h2)]) dX11_odds_30
  have h3 := h2
  obtain ⟨z, hz1, hz2, rfl⟩ := inI_of (by omega) (by omega) h2
  refine lv_iload hx hb dX11_odds_19 (lv_at hl 4 rfl) ?_
  refine lv_iconst (v := nI 0) hx hb dX11_odds_21 (by decide) ?_
  refine lv_iconst (v := nI 1) hx hb dX11_odds_22 (by decide) ?_
  refine va_callR (va_runS (As := [.int w, .int (nI 0), .int (nI 1)]) (rest := []) ⟨hx, hb, hml, hown, hts⟩ (m_X11_in l w (nI 0) (nI 1)) (va_cwS 3 hts (lw_S q908 q909 q65 q910) rfl rfl rfl hd_X11_in ⟨Nat.le_of_ble_eq_true rfl, Nat.le_of_ble_eq_true rfl⟩) pre0 rfl rfl hl.1 rfl (lv_room (Nat.le_of_ble_eq_true rfl)) dX11_odds_23 ⟨Nat.le_of_ble_eq_true rfl, Nat.le_of_ble_eq_true rfl⟩) ?_
  refine z_if_ne (tgt := 31) hx hb dX11_odds_26 (by decide) (fun h4 => ?_) (fun h4 => ?_)
  rotate_left
  · refine lv_iconst (v := (-1)) hx hb dX11_odds_29 (by decide) ?_
    exact n_iret (Qc := fun _ _ _ _ => True) hx hb hr hlocks (by rw [ansOdds, if_pos h0, if_pos h3, if_neg (bnf h4)]) dX11_odds_30
  have h5 := h4
  obtain ⟨t, ht1, ht2, rfl⟩ := inI_of (by omega) (by omega) h4
  refine lv_iconst (v := nI 0) hx hb dX11_odds_31 (by decide) ?_
  refine lv_istore (lv' := [(5, .int (nI 0)), (0, .ref (c 0)), (1, .int (nI i)), (2, .int (nI j)), (3, .int (nI z)), (4, .int (nI t))]) hx hb dX11_odds_32 hl (by decide) rfl (fun ls hl => ?_)
  refine lv_iconst (v := nI 1) hx hb dX11_odds_34 (by decide) ?_
  refine lv_istore (lv' := [(6, .int (nI 1)), (5, .int (nI 0)), (0, .ref (c 0)), (1, .int (nI i)), (2, .int (nI j)), (3, .int (nI z)), (4, .int (nI t))]) hx hb dX11_odds_35 hl (by decide) rfl (fun ls hl => ?_)
  refine lv_aload_n hx hb dX11_odds_37 rfl (lv_at hl 2 rfl) ?_
  refine lv_iconst (v := nI 0) hx hb dX11_odds_38 (by decide) ?_
  refine va_callR (va_runV (As := [.int (nI 0)]) (rest := []) ⟨hx, hb, hml, hown, hts⟩ (m_X11_openBy l D y c J S hI hO 0 (by omega)) (cwV 1 hts (lw_V q1026 q1028 qs46 q65 q1029) rfl rfl rfl ⟨rfl, hd_X11_openBy⟩ ⟨Nat.le_of_ble_eq_true rfl, Nat.le_of_ble_eq_true rfl⟩) (preVR hC hP 11 0 rfl rfl) rfl rfl hl.1 rfl (lv_room (Nat.le_of_ble_eq_true rfl)) dX11_odds_39 ⟨Nat.le_of_ble_eq_true rfl, Nat.le_of_ble_eq_true rfl⟩) ?_
  refine n_top (y := nI (2 ^ S.str - 1)) (congrArg nI wide0) ?_
  refine lv_istore (lv' := [(7, .int (nI (2 ^ S.str - 1))), (6, .int (nI 1)), (5, .int (nI 0)), (0, .ref (c 0)), (1, .int (nI i)), (2, .int (nI j)), (3, .int (nI z)), (4, .int (nI t))]) hx hb dX11_odds_42 hl (by decide) rfl (fun ls hl => ?_)
  refine lv_iconst (v := nI 0) hx hb dX11_odds_44 (by decide) ?_
  refine lv_istore (lv' := [(8, .int (nI 0)), (7, .int (nI (2 ^ S.str - 1))), (6, .int (nI 1)), (5, .int (nI 0)), (0, .ref (c 0)), (1, .int (nI i)), (2, .int (nI j)), (3, .int (nI z)), (4, .int (nI t))]) hx hb dX11_odds_45 hl (by decide) rfl (fun ls hl => ?_)
  refine w_loop (nL := 11) 47 (fun k => [(0, .ref (c 0)), (1, .int (nI i)), (2, .int (nI j)), (3, .int (nI z)), (4, .int (nI t)), (5, .int (nI (sumFr (odG S i j z) (2 ^ S.str - k) k))), (6, .int (nI 1)), (7, .int (nI (2 ^ S.str - 1))), (8, .int (nI k))]) (fun k => k ≤ 2 ^ S.str) (fun k => 2 ^ S.str - k) ?_ 0 (Nat.zero_le _) ls (lv_sub hl [4, 5, 6, 7, 8, 3, 2, 1, 0] rfl)
  rintro k hk ih ls hl
  have hl : lv_has ls 11 [(0, .ref (c 0)), (1, .int (nI i)), (2, .int (nI j)), (3, .int (nI z)), (4, .int (nI t)), (5, .int (nI (sumFr (odG S i j z) (2 ^ S.str - k) k))), (6, .int (nI 1)), (7, .int (nI (2 ^ S.str - 1))), (8, .int (nI k))] := hl
  refine lv_iload hx hb dX11_odds_47 (lv_at hl 8 rfl) ?_
  refine lv_iload hx hb dX11_odds_49 (lv_at hl 7 rfl) ?_
  refine n_icmp_gt (tgt := 140) hx hb dX11_odds_51 (by decide) (by omega) (by omega) (fun h6 => ?_) (fun h6 => ?_)
  · have e9 : k = 2 ^ S.str := by omega
    rw [e9, Nat.sub_self] at hl
    have hl : lv_has ls 11 [(0, .ref (c 0)), (1, .int (nI i)), (2, .int (nI j)), (3, .int (nI z)), (4, .int (nI t)), (5, .int (nI (odUp S i j z))), (6, .int (nI 1)), (7, .int (nI (2 ^ S.str - 1))), (8, .int (nI (2 ^ S.str)))] := hl
    have t1 := od_tail hI (a := i) (b := j) (x := z) hz2 (k := 0) (Nat.zero_le _)
    rw [Nat.sub_zero] at t1
    have t1 : odUp S i j z ≤ 10 ^ S.str := t1
    have t2 := p10 i1
    have t3 := Nat.pow_pos (n := S.str) (show 0 < 10 by omega)
    generalize hup : odUp S i j z = up at hl t1
    refine lv_iconst (v := nI 0) hx hb dX11_odds_140 (by decide) ?_
    refine lv_istore (lv' := [(8, .int (nI 0)), (0, .ref (c 0)), (1, .int (nI i)), (2, .int (nI j)), (3, .int (nI z)), (4, .int (nI t)), (5, .int (nI up)), (6, .int (nI 1)), (7, .int (nI (2 ^ S.str - 1)))]) hx hb dX11_odds_141 hl (by decide) rfl (fun ls hl => ?_)
    refine w_loop (nL := 11) 143 (fun d => [(0, .ref (c 0)), (1, .int (nI i)), (2, .int (nI j)), (3, .int (nI z)), (4, .int (nI t)), (5, .int (nI up)), (6, .int (nI (10 ^ d))), (8, .int (nI d))]) (fun d => d ≤ S.str) (fun d => S.str - d) ?_ 0 (Nat.zero_le _) ls (lv_sub hl [1, 2, 3, 4, 5, 6, 7, 0] rfl)
    rintro d hd ih ls hl
    have hl : lv_has ls 11 [(0, .ref (c 0)), (1, .int (nI i)), (2, .int (nI j)), (3, .int (nI z)), (4, .int (nI t)), (5, .int (nI up)), (6, .int (nI (10 ^ d))), (8, .int (nI d))] := hl
    refine lv_iload hx hb dX11_odds_143 (lv_at hl 7 rfl) ?_
    refine lv_aload_n hx hb dX11_odds_145 rfl (lv_at hl 0 rfl) ?_
    refine va_get (D := D) (ci := 11) (v := .ref (c 3)) (C := RX11) (T := TX11) (N := 26) hx hb hts in_X11 hown hK hP 0 rfl rfl 3 (by decide) (hts _ q828) (fun _ h9 => h9) rfl dX11_odds_146 ?_
    refine lv_iconst (v := nI 0) hx hb dX11_odds_149 (by decide) ?_
    refine n_iald (v := nI S.str) hx hb hK hP 3 0 rfl rfl (j := 0) (by omega) (by decide) (hO.str) dX11_odds_150 ?_
    refine n_icmp_ge (tgt := 167) hx hb dX11_odds_151 (by decide) (by omega) (by omega) (fun h7 => ?_) (fun h7 => ?_)
    · have e8 : d = S.str := by omega
      rw [e8] at hl
      refine lv_iload hx hb dX11_odds_167 (lv_at hl 5 rfl) ?_
      refine lv_istore (lv' := [(8, .int (nI up)), (0, .ref (c 0)), (1, .int (nI i)), (2, .int (nI j)), (3, .int (nI z)), (4, .int (nI t)), (5, .int (nI up)), (6, .int (nI (10 ^ S.str)))]) hx hb dX11_odds_169 hl (by decide) rfl (fun ls hl => ?_)
      refine lv_iload hx hb dX11_odds_171 (lv_at hl 7 rfl) ?_
      refine lv_istore (lv' := [(9, .int (nI (10 ^ S.str))), (8, .int (nI up)), (0, .ref (c 0)), (1, .int (nI i)), (2, .int (nI j)), (3, .int (nI z)), (4, .int (nI t)), (5, .int (nI up)), (6, .int (nI (10 ^ S.str)))]) hx hb dX11_odds_173 hl (by decide) rfl (fun ls hl => ?_)
      refine w_loop (nL := 11) 175 (fun a_ => [(0, .ref (c 0)), (1, .int (nI i)), (2, .int (nI j)), (3, .int (nI z)), (4, .int (nI t)), (5, .int (nI up)), (6, .int (nI (10 ^ S.str))), (8, .int (nI a_.1)), (9, .int (nI a_.2))]) (fun a_ => Nat.gcd a_.1 a_.2 = Nat.gcd up (10 ^ S.str) ∧ a_.1 < 2147483648 ∧ a_.2 < 2147483648) (fun a_ => a_.2) ?_ (up, 10 ^ S.str) (⟨rfl, by omega, by omega⟩) ls (lv_sub hl [2, 3, 4, 5, 6, 7, 8, 1, 0] rfl)
      rintro ⟨u, v⟩ hg ih ls hl
      have hg : Nat.gcd u v = Nat.gcd up (10 ^ S.str) ∧ u < 2147483648 ∧ v < 2147483648 := hg
      have hl : lv_has ls 11 [(0, .ref (c 0)), (1, .int (nI i)), (2, .int (nI j)), (3, .int (nI z)), (4, .int (nI t)), (5, .int (nI up)), (6, .int (nI (10 ^ S.str))), (8, .int (nI u)), (9, .int (nI v))] := hl
      obtain ⟨hg, hu1, hv1⟩ := hg
      refine lv_iload hx hb dX11_odds_175 (lv_at hl 8 rfl) ?_
      refine n_if_eq (tgt := 198) hx hb dX11_odds_177 (by decide) (by omega) (fun h8 => ?_) (fun h8 => ?_)
      · rw [h8, Nat.gcd_zero_right] at hg
        have g1 := Nat.gcd_pos_of_pos_right up t3
        have g2 := Nat.gcd_le_right up t3
        rw [← hg] at g1 g2
        refine lv_iload hx hb dX11_odds_198 (lv_at hl 4 rfl) ?_
        refine n_if_ne (tgt := 211) hx hb dX11_odds_200 (by decide) (by omega) (fun h9 => ?_) (fun h9 => ?_)
        rotate_left
        · refine lv_iload hx hb dX11_odds_203 (lv_at hl 5 rfl) ?_
          refine lv_iload hx hb dX11_odds_205 (lv_at hl 7 rfl) ?_
          refine n_div hx hb dX11_odds_207 (by omega) (by omega) (by omega) ?_
          refine lv_goto (tgt := 216) hx hb dX11_odds_208 (by decide) ?_
          exact n_iret (Qc := fun _ _ _ _ => True) hx hb hr hlocks (by rw [ansOdds, if_pos h0, if_pos h3, if_pos h5, h9, if_pos rfl, idx_nI (by omega), idx_nI (by omega), idx_nI (by omega), hup, hg]) dX11_odds_216
        refine lv_iload hx hb dX11_odds_211 (lv_at hl 6 rfl) ?_
        refine lv_iload hx hb dX11_odds_213 (lv_at hl 7 rfl) ?_
        refine n_div hx hb dX11_odds_215 (by omega) (by omega) (by omega) ?_
        exact n_iret (Qc := fun _ _ _ _ => True) hx hb hr hlocks (by rw [ansOdds, if_pos h0, if_pos h3, if_pos h5, if_neg (by rw [nI_eq (by omega) (by omega)]; exact h9), idx_nI (by omega), idx_nI (by omega), idx_nI (by omega), hup, hg]) dX11_odds_216
      refine lv_iload hx hb dX11_odds_180 (lv_at hl 7 rfl) ?_
      refine lv_iload hx hb dX11_odds_182 (lv_at hl 8 rfl) ?_
      refine n_rem hx hb dX11_odds_184 (by omega) (by omega) (by omega) ?_
      refine lv_istore (lv' := [(10, .int (nI (u % v))), (0, .ref (c 0)), (1, .int (nI i)), (2, .int (nI j)), (3, .int (nI z)), (4, .int (nI t)), (5, .int (nI up)), (6, .int (nI (10 ^ S.str))), (8, .int (nI u)), (9, .int (nI v))]) hx hb dX11_odds_185 hl (by decide) rfl (fun ls hl => ?_)
      refine lv_iload hx hb dX11_odds_187 (lv_at hl 9 rfl) ?_
      refine lv_istore (lv' := [(8, .int (nI v)), (10, .int (nI (u % v))), (0, .ref (c 0)), (1, .int (nI i)), (2, .int (nI j)), (3, .int (nI z)), (4, .int (nI t)), (5, .int (nI up)), (6, .int (nI (10 ^ S.str))), (9, .int (nI v))]) hx hb dX11_odds_189 hl (by decide) rfl (fun ls hl => ?_)
      refine lv_iload hx hb dX11_odds_191 (lv_at hl 1 rfl) ?_
      refine lv_istore (lv' := [(9, .int (nI (u % v))), (8, .int (nI v)), (10, .int (nI (u % v))), (0, .ref (c 0)), (1, .int (nI i)), (2, .int (nI j)), (3, .int (nI z)), (4, .int (nI t)), (5, .int (nI up)), (6, .int (nI (10 ^ S.str)))]) hx hb dX11_odds_193 hl (by decide) rfl (fun ls hl => ?_)
      refine lv_goto (tgt := 175) hx hb dX11_odds_195 (by decide) ?_
      have hlt := Nat.mod_lt u (show 0 < v by omega)
      exact ih (v, u % v) (⟨by rw [← hg, Nat.gcd_comm, ← Nat.gcd_rec, Nat.gcd_comm], hv1, by omega⟩) (hlt) ls (lv_sub hl [3, 4, 5, 6, 7, 8, 9, 1, 0] rfl)
    refine lv_iload hx hb dX11_odds_154 (lv_at hl 6 rfl) ?_
    refine lv_bipush (v := nI 10) hx hb dX11_odds_156 (by decide) ?_
    refine n_mul hx hb dX11_odds_158 ?_
    refine lv_istore (lv' := [(6, .int (nI ((10 ^ d) * 10))), (0, .ref (c 0)), (1, .int (nI i)), (2, .int (nI j)), (3, .int (nI z)), (4, .int (nI t)), (5, .int (nI up)), (8, .int (nI d))]) hx hb dX11_odds_159 hl (by decide) rfl (fun ls hl => ?_)
    refine lv_iinc (v := nI (d + 1)) (lv' := [(8, .int (nI (d + 1))), (6, .int (nI ((10 ^ d) * 10))), (0, .ref (c 0)), (1, .int (nI i)), (2, .int (nI j)), (3, .int (nI z)), (4, .int (nI t)), (5, .int (nI up))]) hx hb dX11_odds_161 hl (k := 7) rfl (nI_inc _) (by decide) rfl (fun ls hl => ?_)
    refine lv_goto (tgt := 143) hx hb dX11_odds_164 (by decide) ?_
    exact ih (d + 1) (by omega) (by omega) ls (lv_sub hl [2, 3, 4, 5, 6, 7, 1, 0] rfl)
  have ihk := ih
  have a1 := andn_le (2 ^ S.str - 1) k
  have hup := od_tail hI (a := i) (b := j) (x := z) hz2 (k := 2 ^ S.str - k) (by omega)
  refine lv_iconst (v := nI 1) hx hb dX11_odds_54 (by decide) ?_
  refine lv_istore (lv' := [(9, .int (nI 1)), (0, .ref (c 0)), (1, .int (nI i)), (2, .int (nI j)), (3, .int (nI z)), (4, .int (nI t)), (5, .int (nI (sumFr (odG S i j z) (2 ^ S.str - k) k))), (6, .int (nI 1)), (7, .int (nI (2 ^ S.str - 1))), (8, .int (nI k))]) hx hb dX11_odds_55 hl (by decide) rfl (fun ls hl => ?_)
  refine lv_iconst (v := nI 0) hx hb dX11_odds_57 (by decide) ?_
  refine lv_istore (lv' := [(10, .int (nI 0)), (9, .int (nI 1)), (0, .ref (c 0)), (1, .int (nI i)), (2, .int (nI j)), (3, .int (nI z)), (4, .int (nI t)), (5, .int (nI (sumFr (odG S i j z) (2 ^ S.str - k) k))), (6, .int (nI 1)), (7, .int (nI (2 ^ S.str - 1))), (8, .int (nI k))]) hx hb dX11_odds_58 hl (by decide) rfl (fun ls hl => ?_)
  refine w_loop (nL := 11) 60 (fun q => [(0, .ref (c 0)), (1, .int (nI i)), (2, .int (nI j)), (3, .int (nI z)), (4, .int (nI t)), (5, .int (nI (sumFr (odG S i j z) (2 ^ S.str - k) k))), (6, .int (nI 1)), (7, .int (nI (2 ^ S.str - 1))), (8, .int (nI k)), (9, .int (nI (prF z k q))), (10, .int (nI q))]) (fun q => q ≤ S.str) (fun q => S.str - q) ?_ 0 (Nat.zero_le _) ls (lv_sub hl [2, 3, 4, 5, 6, 7, 8, 9, 10, 1, 0] rfl)
  rintro q hq ih ls hl
  have hl : lv_has ls 11 [(0, .ref (c 0)), (1, .int (nI i)), (2, .int (nI j)), (3, .int (nI z)), (4, .int (nI t)), (5, .int (nI (sumFr (odG S i j z) (2 ^ S.str - k) k))), (6, .int (nI 1)), (7, .int (nI (2 ^ S.str - 1))), (8, .int (nI k)), (9, .int (nI (prF z k q))), (10, .int (nI q))] := hl
  refine lv_iload hx hb dX11_odds_60 (lv_at hl 10 rfl) ?_
  refine lv_aload_n hx hb dX11_odds_62 rfl (lv_at hl 0 rfl) ?_
  refine va_get (D := D) (ci := 11) (v := .ref (c 3)) (C := RX11) (T := TX11) (N := 26) hx hb hts in_X11 hown hK hP 0 rfl rfl 3 (by decide) (hts _ q828) (fun _ h9 => h9) rfl dX11_odds_63 ?_
  refine lv_iconst (v := nI 0) hx hb dX11_odds_66 (by decide) ?_
  refine n_iald (v := nI S.str) hx hb hK hP 3 0 rfl rfl (j := 0) (by omega) (by decide) (hO.str) dX11_odds_67 ?_
  refine n_icmp_ge (tgt := 100) hx hb dX11_odds_68 (by decide) (by omega) (by omega) (fun h7 => ?_) (fun h7 => ?_)
  · have e8 : q = S.str := by omega
    rw [e8] at hl
    have pl := prF_le z k hz2 S.str
    have t2 := p10 i1
    refine lv_iload hx hb dX11_odds_100 (lv_at hl 5 rfl) ?_
    refine n_cut 131 [.int (nI (if 0 < prF z k S.str ∧ comF S i j (andn (2 ^ S.str - 1) k) = true then prF z k S.str else 0)), .int (nI (sumFr (odG S i j z) (2 ^ S.str - k) k))] (fun K => ?_) ?_
    · refine lv_iload hx hb dX11_odds_102 (lv_at hl 9 rfl) ?_
      refine n_if_le (tgt := 130) hx hb dX11_odds_104 (by decide) (by omega) (fun h8 => ?_) (fun h8 => ?_)
      · refine lv_iconst (v := nI 0) hx hb dX11_odds_130 (by decide) ?_
        exact n_top (by rw [if_neg (fun q => by omega)]) K
      refine lv_aload_n hx hb dX11_odds_107 rfl (lv_at hl 0 rfl) ?_
      refine lv_iload_n hx hb dX11_odds_108 rfl (lv_at hl 1 rfl) ?_
      refine lv_iload_n hx hb dX11_odds_109 rfl (lv_at hl 2 rfl) ?_
      refine lv_iload hx hb dX11_odds_110 (lv_at hl 7 rfl) ?_
      refine lv_iload hx hb dX11_odds_112 (lv_at hl 8 rfl) ?_
      refine lv_iconst (v := (-1)) hx hb dX11_odds_114 (by decide) ?_
      refine lv_ixor hx hb dX11_odds_115 ?_
      refine lv_iand hx hb dX11_odds_116 ?_
      refine n_top (y := nI (andn (2 ^ S.str - 1) k)) (nI_andn) ?_
      refine va_callR (va_runV (As := [.int (nI i), .int (nI j), .int (nI (andn (2 ^ S.str - 1) k))]) (rest := [.int (nI (sumFr (odG S i j z) (2 ^ S.str - k) k))]) ⟨hx, hb, hml, hown, hts⟩ (m_X11_wayBy l D y c J S hI hO i j (andn (2 ^ S.str - 1) k) (by omega) (by omega) (by omega)) (cwV 3 hts (lw_V q1030 q1032 qs47 q65 q1033) rfl rfl rfl ⟨rfl, hd_X11_wayBy⟩ ⟨Nat.le_of_ble_eq_true rfl, Nat.le_of_ble_eq_true rfl⟩) (preVR hC hP 11 0 rfl rfl) rfl rfl hl.1 rfl (lv_room (Nat.le_of_ble_eq_true rfl)) dX11_odds_117 ⟨Nat.le_of_ble_eq_true rfl, Nat.le_of_ble_eq_true rfl⟩) ?_
      refine lv_bipush (v := (-9)) hx hb dX11_odds_120 (by decide) ?_
      refine lv_icmp_eq (tgt := 130) hx hb dX11_odds_122 (by decide) (fun h9 => ?_) (fun h9 => ?_)
      · refine lv_iconst (v := nI 0) hx hb dX11_odds_130 (by decide) ?_
        exact n_top (by rw [if_neg (fun q => by simp [comF, h9] at q)]) K
      refine lv_iload hx hb dX11_odds_125 (lv_at hl 9 rfl) ?_
      refine lv_goto (tgt := 131) hx hb dX11_odds_127 (by decide) ?_
      exact n_top (by rw [if_pos ⟨h8, by simp [comF, h9]⟩]) K
    refine n_add hx hb dX11_odds_131 ?_
    refine n_top (y := nI (sumFr (odG S i j z) (2 ^ S.str - (k + 1)) (k + 1))) (by rw [pr_od hI (by omega), Nat.add_comm]; congr 1; rw [show 2 ^ S.str - (k + 1) = 2 ^ S.str - 1 - k by omega, show 2 ^ S.str - k = 2 ^ S.str - 1 - k + 1 by omega]; rfl) ?_
    refine lv_istore (lv' := [(5, .int (nI (sumFr (odG S i j z) (2 ^ S.str - (k + 1)) (k + 1)))), (0, .ref (c 0)), (1, .int (nI i)), (2, .int (nI j)), (3, .int (nI z)), (4, .int (nI t)), (6, .int (nI 1)), (7, .int (nI (2 ^ S.str - 1))), (8, .int (nI k)), (9, .int (nI (prF z k S.str))), (10, .int (nI S.str))]) hx hb dX11_odds_132 hl (by decide) rfl (fun ls hl => ?_)
    refine lv_iinc (v := nI (k + 1)) (lv' := [(8, .int (nI (k + 1))), (5, .int (nI (sumFr (odG S i j z) (2 ^ S.str - (k + 1)) (k + 1)))), (0, .ref (c 0)), (1, .int (nI i)), (2, .int (nI j)), (3, .int (nI z)), (4, .int (nI t)), (6, .int (nI 1)), (7, .int (nI (2 ^ S.str - 1))), (9, .int (nI (prF z k S.str))), (10, .int (nI S.str))]) hx hb dX11_odds_134 hl (k := 8) rfl (nI_inc _) (by decide) rfl (fun ls hl => ?_)
    refine lv_goto (tgt := 47) hx hb dX11_odds_137 (by decide) ?_
    exact ihk (k + 1) (by omega) (by omega) ls (lv_sub hl [2, 3, 4, 5, 6, 1, 7, 8, 0] rfl)
  refine lv_iload hx hb dX11_odds_71 (lv_at hl 9 rfl) ?_
  refine n_cut 91 [.int (nI (if Nat.testBit k q = true then z else 10 - z)), .int (nI (prF z k q))] (fun K => ?_) ?_
  · refine lv_iload hx hb dX11_odds_73 (lv_at hl 8 rfl) ?_
    refine lv_iload hx hb dX11_odds_75 (lv_at hl 10 rfl) ?_
    refine va_callR (va_runS (As := [.int (nI k), .int (nI q)]) (rest := [.int (nI (prF z k q))]) ⟨hx, hb, hml, hown, hts⟩ (m_X11_has l k q (by omega) (by omega)) (va_cwS 2 hts (lw_S q1034 q1035 q65 q1036) rfl rfl rfl hd_X11_has ⟨Nat.le_of_ble_eq_true rfl, Nat.le_of_ble_eq_true rfl⟩) pre0 rfl rfl hl.1 rfl (lv_room (Nat.le_of_ble_eq_true rfl)) dX11_odds_77 ⟨Nat.le_of_ble_eq_true rfl, Nat.le_of_ble_eq_true rfl⟩) ?_
    refine z_if_eq (tgt := 87) hx hb dX11_odds_80 (by decide) (fun h8 => ?_) (fun h8 => ?_)
    · refine lv_bipush (v := nI 10) hx hb dX11_odds_87 (by decide) ?_
      refine lv_iload_n hx hb dX11_odds_89 rfl (lv_at hl 3 rfl) ?_
      refine n_sub hx hb dX11_odds_90 (by omega) ?_
      exact n_top (by rw [if_neg (bnf h8)]) K
    refine lv_iload_n hx hb dX11_odds_83 rfl (lv_at hl 3 rfl) ?_
    refine lv_goto (tgt := 91) hx hb dX11_odds_84 (by decide) ?_
    exact n_top (by rw [if_pos h8]) K
  refine n_mul hx hb dX11_odds_91 ?_
  refine lv_istore (lv' := [(9, .int (nI ((prF z k q) * (if Nat.testBit k q = true then z else 10 - z)))), (0, .ref (c 0)), (1, .int (nI i)), (2, .int (nI j)), (3, .int (nI z)), (4, .int (nI t)), (5, .int (nI (sumFr (odG S i j z) (2 ^ S.str - k) k))), (6, .int (nI 1)), (7, .int (nI (2 ^ S.str - 1))), (8, .int (nI k)), (10, .int (nI q))]) hx hb dX11_odds_92 hl (by decide) rfl (fun ls hl => ?_)
  refine lv_iinc (v := nI (q + 1)) (lv' := [(10, .int (nI (q + 1))), (9, .int (nI ((prF z k q) * (if Nat.testBit k q = true then z else 10 - z)))), (0, .ref (c 0)), (1, .int (nI i)), (2, .int (nI j)), (3, .int (nI z)), (4, .int (nI t)), (5, .int (nI (sumFr (odG S i j z) (2 ^ S.str - k) k))), (6, .int (nI 1)), (7, .int (nI (2 ^ S.str - 1))), (8, .int (nI k))]) hx hb dX11_odds_94 hl (k := 10) rfl (nI_inc _) (by decide) rfl (fun ls hl => ?_)
  refine lv_goto (tgt := 60) hx hb dX11_odds_97 (by decide) ?_
  exact ih (q + 1) (by omega) (by omega) ls (lv_sub hl [2, 3, 4, 5, 6, 7, 8, 9, 10, 1, 0] rfl)
