/-! model: tellMost -/
set_option maxRecDepth 100000
theorem MOk.most {S : St} {J : MJ} (h : MOk S J) (G : Nat → Int32) : MOk S (J.mMost' G) := ⟨h.yds, h.str, h.ppl, h.one, h.oth, h.wnt, h.now, h.und, h.bef, h.kept, h.iund, h.age, h.ibef, h.typed, h.text, h.facts, h.fw, h.fn, h.trace⟩
theorem most_most {J : MJ} {G G2 : Nat → Int32} : (J.mMost' G).mMost' G2 = J.mMost' G2 := rfl
theorem most_id {J : MJ} : J.mMost' J.mMost = J := rfl
theorem dn_sub (k : Nat) : nI k - nI 1 = dn k := by
  unfold dn; rw [Int32.sub_eq_add_neg, show -(nI 1) = Int32.ofInt (-1) from by decide]
def lpM (S : St) (n k t sg : Nat) : Nat := lpG (okC S k t) (fun q => 1 + mstN S n (k + 1) (t ||| 2 ^ q)) (mstN S n (k + 1) t) sg
theorem lpM_skip {S : St} {n k t sg : Nat} (h : okC S k t sg = false) : lpM S n k t (sg + 1) = lpM S n k t sg := by
  have e : lpM S n k t (sg + 1) = if okC S k t sg = true then max (lpM S n k t sg) (1 + mstN S n (k + 1) (t ||| 2 ^ sg)) else lpM S n k t sg := rfl
  rw [e, if_neg (by rw [h]; decide)]
theorem lpM_max {S : St} {n k t sg : Nat} (h : okC S k t sg = true) : lpM S n k t (sg + 1) = max (lpM S n k t sg) (1 + mstN S n (k + 1) (t ||| 2 ^ sg)) := by
  have e : lpM S n k t (sg + 1) = if okC S k t sg = true then max (lpM S n k t sg) (1 + mstN S n (k + 1) (t ||| 2 ^ sg)) else lpM S n k t sg := rfl
  rw [e, if_pos h]
theorem lpM_le {S : St} {n k t : Nat} (sg : Nat) : lpM S n k t sg ≤ n + 1 := by
  rcases lpG_is (ok := okC S k t) (f := fun q => 1 + mstN S n (k + 1) (t ||| 2 ^ q)) (b := mstN S n (k + 1) t) sg with q | ⟨s0, _, _, q⟩
  · have := mstN_le S n (k + 1) t; unfold lpM; omega
  · have := mstN_le S n (k + 1) (t ||| 2 ^ s0); unfold lpM; omega
theorem lpM_0 {S : St} {n k t : Nat} : lpM S n k t 0 = mstN S n (k + 1) t := rfl
theorem mst_s {S : St} {n k t : Nat} : mstN S (n + 1) k t = lpM S n k t S.str := rfl
theorem cmpF_s {S : St} {n q tk j : Nat} : cmpF S (n + 1) q tk j = if j = q then chF S n q tk else cmpF S n (q + 1) (tk ||| bitO (chF S n q tk)) j := rfl
theorem okC_can {S : St} {q tk sg : Nat} (h1 : tk.testBit sg = false) : okC S q tk sg = decide (S.wnt q ≤ wid S.now sg) := by unfold okC; rw [h1]; rfl
theorem hd_X11_tellMost : yX11_tellMost.cls ≠ "java/lang/invoke/MethodHandle" ∧ yX11_tellMost.cls ≠ "java/lang/invoke/VarHandle" ∧ (parseMethodDescriptor yX11_tellMost.desc).map (fun d => d.parameters.length) = some 0 := by decide +kernel
/-- X11_tellMost -/
theorem m_X11_tellMost (l : Launch) (D : va_G) (y : Nat → ClassId) (c : Nat → Nat) (J : MJ) (S : St) (hI : StOk S) (hO : MOk S J)  : Met l yX11_tellMost (ws_ yX11_tellMost cX11_tellMost 7 none) ({ frames := 2, cells := 0, slots := 0, locals := 45 }) (va_Pc [.ref (c 0)] (WH D y (MA c) (cellsM y c J))) (va_Qv (fun (J' : MJ) => ∃ M, J' = J.mMost' M ∧ ∀ r, r ≤ S.ppl → ∀ u, u < 2 ^ S.str → M (512 * r + u) = nI (mstN S (S.ppl - r) r u)) (fun (J' : MJ) t => WH D y (MA c) (cellsM y c J') t) (MA c)) 0 0 (MA c) := by
  refine x_start (by decide) (Nat.le_of_ble_eq_true rfl) ?_
  intro p e s m below meth cd ls hx hb hr hts hml hown hlocks hnm hB hl
  have hC := hB.1
  obtain ⟨⟨hK, hN⟩, hP, hD⟩ := hB
  have hS : va_S (MA c) s.heap s.heap [] := va_S.rf
  have hown : s.vm.findClass RX11 = some m.cls := hown
  have hl : lv_has ls 7 [(0, .ref (c 0))] := hl
  have i1 := hI.str
  have i2 := hI.ppl
  have t1 : 2 ^ S.str ≤ 2 ^ 9 := Nat.pow_le_pow_right (by omega) i1
  have hP : va_P D kcl (cellsM y c (J.mMost' J.mMost)) s.heap := by rw [most_id]; exact hP
  have hD : va_D (MA c) (cellsM y c (J.mMost' J.mMost)) := by rw [most_id]; exact hD
  refine lv_iconst (v := nI 1) hx hb dX11_tellMost_0 (by decide) ?_
  refine lv_aload_n hx hb dX11_tellMost_1 rfl (lv_at hl 0 rfl) ?_
  refine va_get (D := D) (ci := 11) (v := .ref (c 3)) (C := RX11) (T := TX11) (N := 26) hx hb hts in_X11 hown hK hP 0 rfl rfl 3 (by decide) (hts _ q828) (fun _ h9 => h9) rfl dX11_tellMost_2 ?_
  refine lv_iconst (v := nI 0) hx hb dX11_tellMost_5 (by decide) ?_
  refine n_iald (v := nI S.str) hx hb hK hP 3 0 rfl rfl (j := 0) (by omega) (by decide) (hO.str) dX11_tellMost_6 ?_
  refine n_shl1 hx hb dX11_tellMost_7 (by omega) ?_
  refine lv_istore_n (lv' := [(1, .int (nI (2 ^ S.str))), (0, .ref (c 0))]) hx hb dX11_tellMost_8 rfl hl (by decide) rfl (fun ls hl => ?_)
  refine lv_iconst (v := nI 0) hx hb dX11_tellMost_9 (by decide) ?_
  refine lv_istore_n (lv' := [(2, .int (nI 0)), (1, .int (nI (2 ^ S.str))), (0, .ref (c 0))]) hx hb dX11_tellMost_10 rfl hl (by decide) rfl (fun ls hl => ?_)
  refine w_loopH (α := Nat × (Nat → Int32)) (nL := 7) 11 (fun a_ => [(0, .ref (c 0)), (1, .int (nI (2 ^ S.str))), (2, .int (nI a_.1))]) (fun a_ => cellsM y c (J.mMost' a_.2)) (fun a_ => a_.1 ≤ 2 ^ S.str ∧ ∀ u, u < a_.1 → a_.2 (512 * S.ppl + u) = nI 0) (fun a_ => 2 ^ S.str - a_.1) ?_ (0, J.mMost) (⟨Nat.zero_le _, fun u h => absurd h (Nat.not_lt_zero u)⟩) ls _ _ (lv_sub hl [2, 1, 0] rfl) hP hD hS
  rintro ⟨k, M⟩ hi ih ls H locs hl hP hD hS
  have hP : va_P D kcl (cellsM y c (J.mMost' M)) H := hP
  have hD : va_D (MA c) (cellsM y c (J.mMost' M)) := hD
  have hi : k ≤ 2 ^ S.str ∧ ∀ u, u < k → M (512 * S.ppl + u) = nI 0 := hi
  have hl : lv_has ls 7 [(0, .ref (c 0)), (1, .int (nI (2 ^ S.str))), (2, .int (nI k))] := hl
  obtain ⟨hk, hz⟩ := hi
  refine lv_iload_n hx hb dX11_tellMost_11 rfl (lv_at hl 2 rfl) ?_
  refine lv_iload_n hx hb dX11_tellMost_12 rfl (lv_at hl 1 rfl) ?_
  refine n_icmp_ge (tgt := 40) hx hb dX11_tellMost_13 (by decide) (by omega) (by omega) (fun h1 => ?_) (fun h1 => ?_)
  rotate_left
  · refine lv_aload_n hx hb dX11_tellMost_16 rfl (lv_at hl 0 rfl) ?_
    refine va_get (D := D) (ci := 11) (v := .ref (c 15)) (C := RX11) (T := TX11) (N := 26) hx hb hts in_X11 hown hK hP 0 rfl rfl 21 (by decide) (hts _ q846) (fun _ h9 => h9) rfl dX11_tellMost_17 ?_
    refine lv_sipush (v := nI 512) hx hb dX11_tellMost_20 (by decide) ?_
    refine lv_aload_n hx hb dX11_tellMost_23 rfl (lv_at hl 0 rfl) ?_
    refine va_get (D := D) (ci := 11) (v := .ref (c 7)) (C := RX11) (T := TX11) (N := 26) hx hb hts in_X11 hown hK hP 0 rfl rfl 7 (by decide) (hts _ q832) (fun _ h9 => h9) rfl dX11_tellMost_24 ?_
    refine lv_iconst (v := nI 0) hx hb dX11_tellMost_27 (by decide) ?_
    refine n_iald (v := nI S.ppl) hx hb hK hP 7 0 rfl rfl (j := 0) (by omega) (by decide) (hO.ppl) dX11_tellMost_28 ?_
    refine n_mul hx hb dX11_tellMost_29 ?_
    refine lv_iload_n hx hb dX11_tellMost_30 rfl (lv_at hl 2 rfl) ?_
    refine n_add hx hb dX11_tellMost_31 ?_
    refine lv_iconst (v := nI 0) hx hb dX11_tellMost_32 (by decide) ?_
    refine n_iast hx hb hK hP hD hS 15 0 rfl rfl (j := (512 * S.ppl + k)) (by omega) (by decide) dX11_tellMost_33 (fun H locs hP hD hS => ?_)
    have hP : va_P D kcl (cellsM y c (J.mMost' (upd M (512 * S.ppl + k) (nI 0)))) H := hP
    have hD : va_D (MA c) (cellsM y c (J.mMost' (upd M (512 * S.ppl + k) (nI 0)))) := hD
    refine lv_iinc (v := nI (k + 1)) (lv' := [(2, .int (nI (k + 1))), (0, .ref (c 0)), (1, .int (nI (2 ^ S.str)))]) hx hb dX11_tellMost_34 hl (k := 2) rfl (nI_inc _) (by decide) rfl (fun ls hl => ?_)
    refine lv_goto (tgt := 11) hx hb dX11_tellMost_37 (by decide) ?_
    exact ih (k + 1, upd M (512 * S.ppl + k) (nI 0)) (⟨by dsimp only; omega, fun u hu => by
        have hu : u < k + 1 := hu
        show upd M (512 * S.ppl + k) (nI 0) (512 * S.ppl + u) = nI 0
        by_cases e : u = k
        · rw [e, pk_us]
        · rw [pk_un (by omega)]; exact hz u (by omega)⟩) (by dsimp only; omega) ls _ _ (lv_sub hl [1, 2, 0] rfl) hP hD hS
  have ek : k = 2 ^ S.str := by omega
  rw [ek] at hz
  refine lv_aload_n hx hb dX11_tellMost_40 rfl (lv_at hl 0 rfl) ?_
  refine va_get (D := D) (ci := 11) (v := .ref (c 7)) (C := RX11) (T := TX11) (N := 26) hx hb hts in_X11 hown hK hP 0 rfl rfl 7 (by decide) (hts _ q832) (fun _ h9 => h9) rfl dX11_tellMost_41 ?_
  refine lv_iconst (v := nI 0) hx hb dX11_tellMost_44 (by decide) ?_
  refine n_iald (v := nI S.ppl) hx hb hK hP 7 0 rfl rfl (j := 0) (by omega) (by decide) (hO.ppl) dX11_tellMost_45 ?_
  refine lv_iconst (v := nI 1) hx hb dX11_tellMost_46 (by decide) ?_
  refine lv_isub hx hb dX11_tellMost_47 ?_
  refine n_top (y := dn S.ppl) (dn_sub _) ?_
  refine lv_istore_n (lv' := [(2, .int (dn S.ppl)), (0, .ref (c 0)), (1, .int (nI (2 ^ S.str)))]) hx hb dX11_tellMost_48 rfl hl (by decide) rfl (fun ls hl => ?_)
  refine w_loopH (α := Nat × (Nat → Int32)) (nL := 7) 49 (fun a_ => [(0, .ref (c 0)), (1, .int (nI (2 ^ S.str))), (2, .int (dn a_.1))]) (fun a_ => cellsM y c (J.mMost' a_.2)) (fun a_ => a_.1 ≤ S.ppl ∧ (∀ r, a_.1 ≤ r → r ≤ S.ppl → ∀ u, u < 2 ^ S.str → a_.2 (512 * r + u) = nI (mstN S (S.ppl - r) r u))) (fun a_ => a_.1) ?_ (S.ppl, M) (⟨Nat.le_refl _, fun r h1 h2 u hu => by
      have e : r = S.ppl := by have h1 : S.ppl ≤ r := h1; omega
      rw [e, Nat.sub_self]; exact hz u hu⟩) ls _ _ (lv_sub hl [1, 2, 0] rfl) hP hD hS
  rintro ⟨q, M⟩ hq ih ls H locs hl hP hD hS
  have hP : va_P D kcl (cellsM y c (J.mMost' M)) H := hP
  have hD : va_D (MA c) (cellsM y c (J.mMost' M)) := hD
  have hq : q ≤ S.ppl ∧ (∀ r, q ≤ r → r ≤ S.ppl → ∀ u, u < 2 ^ S.str → M (512 * r + u) = nI (mstN S (S.ppl - r) r u)) := hq
  have hl : lv_has ls 7 [(0, .ref (c 0)), (1, .int (nI (2 ^ S.str))), (2, .int (dn q))] := hl
  obtain ⟨hq1, hA⟩ := hq
  refine lv_iload_n hx hb dX11_tellMost_49 rfl (lv_at hl 2 rfl) ?_
  refine lv_if_lt (tgt := 180) hx hb dX11_tellMost_50 (by decide) (fun h2 => ?_) (fun h2 => ?_)
  · have h3 := (dn_neg (by omega)).mp h2
    subst h3
    exact h_vret (V := fun J' => cellsM y c J') (J.mMost' M) hx hb hr hlocks hC hP hD hS (⟨M, rfl, fun r h1 => hA r (Nat.zero_le _) h1⟩) dX11_tellMost_180
  obtain ⟨k, rfl⟩ : ∃ k, q = k + 1 := ⟨q - 1, by have h3 := mt (dn_neg (by omega)).mpr h2; omega⟩
  rw [dn_s] at hl
  have hl : lv_has ls 7 [(0, .ref (c 0)), (1, .int (nI (2 ^ S.str))), (2, .int (nI k))] := hl
  obtain ⟨n, hn⟩ : ∃ n, S.ppl = k + 1 + n := ⟨S.ppl - (k + 1), by omega⟩
  have ih0 := ih
  refine lv_iconst (v := nI 0) hx hb dX11_tellMost_53 (by decide) ?_
  refine lv_istore_n (lv' := [(3, .int (nI 0)), (0, .ref (c 0)), (1, .int (nI (2 ^ S.str))), (2, .int (nI k))]) hx hb dX11_tellMost_54 rfl hl (by decide) rfl (fun ls hl => ?_)
  refine w_loopH (α := Nat × (Nat → Int32)) (nL := 7) 55 (fun a_ => [(0, .ref (c 0)), (1, .int (nI (2 ^ S.str))), (2, .int (nI k)), (3, .int (nI a_.1))]) (fun a_ => cellsM y c (J.mMost' a_.2)) (fun a_ => a_.1 ≤ 2 ^ S.str ∧ (∀ r, k + 1 ≤ r → r ≤ S.ppl → ∀ u, u < 2 ^ S.str → a_.2 (512 * r + u) = nI (mstN S (S.ppl - r) r u)) ∧ ∀ u, u < a_.1 → a_.2 (512 * k + u) = nI (mstN S (n + 1) k u)) (fun a_ => 2 ^ S.str - a_.1) ?_ (0, M) (⟨Nat.zero_le _, hA, fun u h => absurd h (Nat.not_lt_zero u)⟩) ls _ _ (lv_sub hl [1, 2, 3, 0] rfl) hP hD hS
  rintro ⟨t, M⟩ ht ih ls H locs hl hP hD hS
  have hP : va_P D kcl (cellsM y c (J.mMost' M)) H := hP
  have hD : va_D (MA c) (cellsM y c (J.mMost' M)) := hD
  have ht : t ≤ 2 ^ S.str ∧ (∀ r, k + 1 ≤ r → r ≤ S.ppl → ∀ u, u < 2 ^ S.str → M (512 * r + u) = nI (mstN S (S.ppl - r) r u)) ∧ ∀ u, u < t → M (512 * k + u) = nI (mstN S (n + 1) k u) := ht
  have hl : lv_has ls 7 [(0, .ref (c 0)), (1, .int (nI (2 ^ S.str))), (2, .int (nI k)), (3, .int (nI t))] := hl
  obtain ⟨ht1, hA2, hT⟩ := ht
  refine lv_iload_n hx hb dX11_tellMost_55 rfl (lv_at hl 3 rfl) ?_
  refine lv_iload_n hx hb dX11_tellMost_56 rfl (lv_at hl 1 rfl) ?_
  refine n_icmp_ge (tgt := 174) hx hb dX11_tellMost_57 (by decide) (by omega) (by omega) (fun h3 => ?_) (fun h3 => ?_)
  · have et : t = 2 ^ S.str := by omega
    rw [et] at hT
    refine lv_iinc (v := dn k) (lv' := [(2, .int (dn k)), (0, .ref (c 0)), (1, .int (nI (2 ^ S.str))), (3, .int (nI t))]) hx hb dX11_tellMost_174 hl (k := 2) rfl (rfl) (by decide) rfl (fun ls hl => ?_)
    refine lv_goto (tgt := 49) hx hb dX11_tellMost_177 (by decide) ?_
    have ih := ih0
    exact ih (k, M) (⟨by dsimp only; omega, fun r h1 h2 u hu => by
        have h1 : k ≤ r := h1
        show M _ = _
        by_cases e : r = k
        · rw [e, show S.ppl - k = n + 1 by omega]; exact hT u hu
        · exact hA2 r (by omega) h2 u hu⟩) (by dsimp only; omega) ls _ _ (lv_sub hl [1, 2, 0] rfl) hP hD hS
  have hA1 : ∀ u, u < 2 ^ S.str → M (512 * (k + 1) + u) = nI (mstN S n (k + 1) u) := fun u hu => by
      have := hA2 (k + 1) (Nat.le_refl _) (by omega) u hu
      rw [show S.ppl - (k + 1) = n by omega] at this; exact this
  have ih1 := ih
  refine lv_aload_n hx hb dX11_tellMost_60 rfl (lv_at hl 0 rfl) ?_
  refine va_get (D := D) (ci := 11) (v := .ref (c 15)) (C := RX11) (T := TX11) (N := 26) hx hb hts in_X11 hown hK hP 0 rfl rfl 21 (by decide) (hts _ q846) (fun _ h9 => h9) rfl dX11_tellMost_61 ?_
  refine lv_sipush (v := nI 512) hx hb dX11_tellMost_64 (by decide) ?_
  refine lv_iload_n hx hb dX11_tellMost_67 rfl (lv_at hl 2 rfl) ?_
  refine lv_iconst (v := nI 1) hx hb dX11_tellMost_68 (by decide) ?_
  refine n_add hx hb dX11_tellMost_69 ?_
  refine n_mul hx hb dX11_tellMost_70 ?_
  refine lv_iload_n hx hb dX11_tellMost_71 rfl (lv_at hl 3 rfl) ?_
  refine n_add hx hb dX11_tellMost_72 ?_
  refine n_iald (v := nI (mstN S n (k + 1) t)) hx hb hK hP 15 0 rfl rfl (j := (512 * (k + 1) + t)) (by omega) (by decide) (hA1 t (by omega)) dX11_tellMost_73 ?_
  refine lv_istore (lv' := [(4, .int (nI (mstN S n (k + 1) t))), (0, .ref (c 0)), (1, .int (nI (2 ^ S.str))), (2, .int (nI k)), (3, .int (nI t))]) hx hb dX11_tellMost_74 hl (by decide) rfl (fun ls hl => ?_)
  refine lv_iconst (v := nI 0) hx hb dX11_tellMost_76 (by decide) ?_
  refine lv_istore (lv' := [(5, .int (nI 0)), (4, .int (nI (mstN S n (k + 1) t))), (0, .ref (c 0)), (1, .int (nI (2 ^ S.str))), (2, .int (nI k)), (3, .int (nI t))]) hx hb dX11_tellMost_77 hl (by decide) rfl (fun ls hl => ?_)
  rw [← lpM_0] at hl
  have hl : lv_has ls 7 [(5, .int (nI 0)), (4, .int (nI (lpM S n k t 0))), (0, .ref (c 0)), (1, .int (nI (2 ^ S.str))), (2, .int (nI k)), (3, .int (nI t))] := hl
  refine w_loop (nL := 7) 79 (fun sg => [(0, .ref (c 0)), (1, .int (nI (2 ^ S.str))), (2, .int (nI k)), (3, .int (nI t)), (4, .int (nI (lpM S n k t sg))), (5, .int (nI sg))]) (fun sg => sg ≤ S.str) (fun sg => S.str - sg) ?_ 0 (Nat.zero_le _) ls (lv_sub hl [2, 3, 4, 5, 1, 0] rfl)
  rintro sg hs ih ls hl
  have hl : lv_has ls 7 [(0, .ref (c 0)), (1, .int (nI (2 ^ S.str))), (2, .int (nI k)), (3, .int (nI t)), (4, .int (nI (lpM S n k t sg))), (5, .int (nI sg))] := hl
  have b1 := lpM_le (S := S) (n := n) (k := k) (t := t) sg
  have b2 := mstN_le S n (k + 1) (t ||| 2 ^ sg)
  have hs : sg ≤ S.str := hs
  have hw : sg < S.str → t ||| 2 ^ sg < 2 ^ S.str := fun q => Nat.or_lt_two_pow (by omega) (Nat.pow_lt_pow_right (by omega) q)
  refine lv_iload hx hb dX11_tellMost_79 (lv_at hl 5 rfl) ?_
  refine lv_aload_n hx hb dX11_tellMost_81 rfl (lv_at hl 0 rfl) ?_
  refine va_get (D := D) (ci := 11) (v := .ref (c 3)) (C := RX11) (T := TX11) (N := 26) hx hb hts in_X11 hown hK hP 0 rfl rfl 3 (by decide) (hts _ q828) (fun _ h9 => h9) rfl dX11_tellMost_82 ?_
  refine lv_iconst (v := nI 0) hx hb dX11_tellMost_85 (by decide) ?_
  refine n_iald (v := nI S.str) hx hb hK hP 3 0 rfl rfl (j := 0) (by omega) (by decide) (hO.str) dX11_tellMost_86 ?_
  refine n_icmp_ge (tgt := 154) hx hb dX11_tellMost_87 (by decide) (by omega) (by omega) (fun h4 => ?_) (fun h4 => ?_)
  · have es : sg = S.str := by omega
    refine lv_aload_n hx hb dX11_tellMost_154 rfl (lv_at hl 0 rfl) ?_
    refine va_get (D := D) (ci := 11) (v := .ref (c 15)) (C := RX11) (T := TX11) (N := 26) hx hb hts in_X11 hown hK hP 0 rfl rfl 21 (by decide) (hts _ q846) (fun _ h9 => h9) rfl dX11_tellMost_155 ?_
    refine lv_sipush (v := nI 512) hx hb dX11_tellMost_158 (by decide) ?_
    refine lv_iload_n hx hb dX11_tellMost_161 rfl (lv_at hl 2 rfl) ?_
    refine n_mul hx hb dX11_tellMost_162 ?_
    refine lv_iload_n hx hb dX11_tellMost_163 rfl (lv_at hl 3 rfl) ?_
    refine n_add hx hb dX11_tellMost_164 ?_
    refine lv_iload hx hb dX11_tellMost_165 (lv_at hl 4 rfl) ?_
    refine n_iast hx hb hK hP hD hS 15 0 rfl rfl (j := (512 * k + t)) (by omega) (by decide) dX11_tellMost_167 (fun H locs hP hD hS => ?_)
    have hP : va_P D kcl (cellsM y c (J.mMost' (upd M (512 * k + t) (nI (lpM S n k t sg))))) H := hP
    have hD : va_D (MA c) (cellsM y c (J.mMost' (upd M (512 * k + t) (nI (lpM S n k t sg))))) := hD
    refine lv_iinc (v := nI (t + 1)) (lv' := [(3, .int (nI (t + 1))), (0, .ref (c 0)), (1, .int (nI (2 ^ S.str))), (2, .int (nI k)), (4, .int (nI (lpM S n k t sg))), (5, .int (nI sg))]) hx hb dX11_tellMost_168 hl (k := 3) rfl (nI_inc _) (by decide) rfl (fun ls hl => ?_)
    refine lv_goto (tgt := 55) hx hb dX11_tellMost_171 (by decide) ?_
    have ih := ih1
    exact ih (t + 1, upd M (512 * k + t) (nI (lpM S n k t sg))) (⟨by dsimp only; omega, fun r h1 h2 u hu => by
        show upd M (512 * k + t) (nI (lpM S n k t sg)) (512 * r + u) = _
        rw [pk_un (by omega)]; exact hA2 r h1 h2 u hu, fun u hu => by
        have hu : u < t + 1 := hu
        show upd M (512 * k + t) (nI (lpM S n k t sg)) (512 * k + u) = _
        by_cases e : u = t
        · rw [e, pk_us, mst_s, es]
        · rw [pk_un (by omega)]; exact hT u (by omega)⟩) (by dsimp only; omega) ls _ _ (lv_sub hl [1, 2, 3, 0] rfl) hP hD hS
  refine lv_iload_n hx hb dX11_tellMost_90 rfl (lv_at hl 3 rfl) ?_
  refine lv_iload hx hb dX11_tellMost_91 (lv_at hl 5 rfl) ?_
  refine va_callR (va_runS (As := [.int (nI t), .int (nI sg)]) (rest := []) ⟨hx, hb, hml, hown, hts⟩ (m_X11_has l t sg (by omega) (by omega)) (va_cwS 2 hts (lw_S q1034 q1035 q65 q1036) rfl rfl rfl hd_X11_has ⟨Nat.le_of_ble_eq_true rfl, Nat.le_of_ble_eq_true rfl⟩) pre0 rfl rfl hl.1 rfl (lv_room (Nat.le_of_ble_eq_true rfl)) dX11_tellMost_93 ⟨Nat.le_of_ble_eq_true rfl, Nat.le_of_ble_eq_true rfl⟩) ?_
  refine z_if_ne (tgt := 148) hx hb dX11_tellMost_96 (by decide) (fun h5 => ?_) (fun h5 => ?_)
  · rw [← lpM_skip (okC_has h5)] at hl
    have hl : lv_has ls 7 [(0, .ref (c 0)), (1, .int (nI (2 ^ S.str))), (2, .int (nI k)), (3, .int (nI t)), (4, .int (nI (lpM S n k t (sg + 1)))), (5, .int (nI sg))] := hl
    refine lv_iinc (v := nI (sg + 1)) (lv' := [(5, .int (nI (sg + 1))), (0, .ref (c 0)), (1, .int (nI (2 ^ S.str))), (2, .int (nI k)), (3, .int (nI t)), (4, .int (nI (lpM S n k t (sg + 1))))]) hx hb dX11_tellMost_148 hl (k := 5) rfl (nI_inc _) (by decide) rfl (fun ls hl => ?_)
    refine lv_goto (tgt := 79) hx hb dX11_tellMost_151 (by decide) ?_
    exact ih (sg + 1) (by omega) (by omega) ls (lv_sub hl [1, 2, 3, 4, 5, 0] rfl)
  refine lv_aload_n hx hb dX11_tellMost_99 rfl (lv_at hl 0 rfl) ?_
  refine lv_iload_n hx hb dX11_tellMost_100 rfl (lv_at hl 2 rfl) ?_
  refine lv_iload hx hb dX11_tellMost_101 (lv_at hl 5 rfl) ?_
  refine va_callR (va_runV (As := [.int (nI k), .int (nI sg)]) (rest := []) ⟨hx, hb, hml, hown, hts⟩ (m_X11_canHave l D y c (J.mMost' M) S hI hO k sg (by omega) (by omega)) (cwV 2 hts (lw_V q1065 q1067 qs50 q65 q1068) rfl rfl rfl ⟨rfl, hd_X11_canHave⟩ ⟨Nat.le_of_ble_eq_true rfl, Nat.le_of_ble_eq_true rfl⟩) (preVR hC hP 11 0 rfl rfl) rfl rfl hl.1 rfl (lv_room (Nat.le_of_ble_eq_true rfl)) dX11_tellMost_103 ⟨Nat.le_of_ble_eq_true rfl, Nat.le_of_ble_eq_true rfl⟩) ?_
  refine z_if_eq (tgt := 148) hx hb dX11_tellMost_106 (by decide) (fun h6 => ?_) (fun h6 => ?_)
  · have o6 : okC S k t sg = false := (okC_can h5).trans h6
    rw [← lpM_skip o6] at hl
    have hl : lv_has ls 7 [(0, .ref (c 0)), (1, .int (nI (2 ^ S.str))), (2, .int (nI k)), (3, .int (nI t)), (4, .int (nI (lpM S n k t (sg + 1)))), (5, .int (nI sg))] := hl
    refine lv_iinc (v := nI (sg + 1)) (lv' := [(5, .int (nI (sg + 1))), (0, .ref (c 0)), (1, .int (nI (2 ^ S.str))), (2, .int (nI k)), (3, .int (nI t)), (4, .int (nI (lpM S n k t (sg + 1))))]) hx hb dX11_tellMost_148 hl (k := 5) rfl (nI_inc _) (by decide) rfl (fun ls hl => ?_)
    refine lv_goto (tgt := 79) hx hb dX11_tellMost_151 (by decide) ?_
    exact ih (sg + 1) (by omega) (by omega) ls (lv_sub hl [1, 2, 3, 4, 5, 0] rfl)
  have hw := hw (by omega)
  have o6 : okC S k t sg = true := (okC_can h5).trans h6
  refine lv_iconst (v := nI 1) hx hb dX11_tellMost_109 (by decide) ?_
  refine lv_aload_n hx hb dX11_tellMost_110 rfl (lv_at hl 0 rfl) ?_
  refine va_get (D := D) (ci := 11) (v := .ref (c 15)) (C := RX11) (T := TX11) (N := 26) hx hb hts in_X11 hown hK hP 0 rfl rfl 21 (by decide) (hts _ q846) (fun _ h9 => h9) rfl dX11_tellMost_111 ?_
  refine lv_sipush (v := nI 512) hx hb dX11_tellMost_114 (by decide) ?_
  refine lv_iload_n hx hb dX11_tellMost_117 rfl (lv_at hl 2 rfl) ?_
  refine lv_iconst (v := nI 1) hx hb dX11_tellMost_118 (by decide) ?_
  refine n_add hx hb dX11_tellMost_119 ?_
  refine n_mul hx hb dX11_tellMost_120 ?_
  refine lv_iload_n hx hb dX11_tellMost_121 rfl (lv_at hl 3 rfl) ?_
  refine lv_iconst (v := nI 1) hx hb dX11_tellMost_122 (by decide) ?_
  refine lv_iload hx hb dX11_tellMost_123 (lv_at hl 5 rfl) ?_
  refine n_shl1 hx hb dX11_tellMost_125 (by omega) ?_
  refine n_or hx hb dX11_tellMost_126 ?_
  refine n_add hx hb dX11_tellMost_127 ?_
  refine n_iald (v := nI (mstN S n (k + 1) (t ||| (2 ^ sg)))) hx hb hK hP 15 0 rfl rfl (j := (512 * (k + 1) + (t ||| (2 ^ sg)))) (by omega) (by decide) (hA1 (t ||| (2 ^ sg)) (Nat.or_lt_two_pow (by omega) (Nat.pow_lt_pow_right (by omega) (by omega)))) dX11_tellMost_128 ?_
  refine n_add hx hb dX11_tellMost_129 ?_
  refine lv_istore (lv' := [(6, .int (nI (1 + (mstN S n (k + 1) (t ||| (2 ^ sg)))))), (0, .ref (c 0)), (1, .int (nI (2 ^ S.str))), (2, .int (nI k)), (3, .int (nI t)), (4, .int (nI (lpM S n k t sg))), (5, .int (nI sg))]) hx hb dX11_tellMost_130 hl (by decide) rfl (fun ls hl => ?_)
  refine lv_iload hx hb dX11_tellMost_132 (lv_at hl 0 rfl) ?_
  refine lv_iload hx hb dX11_tellMost_134 (lv_at hl 5 rfl) ?_
  refine n_icmp_le (tgt := 144) hx hb dX11_tellMost_136 (by decide) (by omega) (by omega) (fun h7 => ?_) (fun h7 => ?_)
  · refine lv_iload hx hb dX11_tellMost_144 (lv_at hl 5 rfl) ?_
    refine n_top (y := nI (lpM S n k t (sg + 1))) (by rw [lpM_max o6]; congr 1; omega) ?_
    refine lv_istore (lv' := [(4, .int (nI (lpM S n k t (sg + 1)))), (6, .int (nI (1 + (mstN S n (k + 1) (t ||| (2 ^ sg)))))), (0, .ref (c 0)), (1, .int (nI (2 ^ S.str))), (2, .int (nI k)), (3, .int (nI t)), (5, .int (nI sg))]) hx hb dX11_tellMost_146 hl (by decide) rfl (fun ls hl => ?_)
    refine lv_iinc (v := nI (sg + 1)) (lv' := [(5, .int (nI (sg + 1))), (4, .int (nI (lpM S n k t (sg + 1)))), (6, .int (nI (1 + (mstN S n (k + 1) (t ||| (2 ^ sg)))))), (0, .ref (c 0)), (1, .int (nI (2 ^ S.str))), (2, .int (nI k)), (3, .int (nI t))]) hx hb dX11_tellMost_148 hl (k := 6) rfl (nI_inc _) (by decide) rfl (fun ls hl => ?_)
    refine lv_goto (tgt := 79) hx hb dX11_tellMost_151 (by decide) ?_
    exact ih (sg + 1) (by omega) (by omega) ls (lv_sub hl [3, 4, 5, 6, 1, 0] rfl)
  refine lv_iload hx hb dX11_tellMost_139 (lv_at hl 0 rfl) ?_
  refine lv_goto (tgt := 146) hx hb dX11_tellMost_141 (by decide) ?_
  refine n_top (y := nI (lpM S n k t (sg + 1))) (by rw [lpM_max o6]; congr 1; omega) ?_
  refine lv_istore (lv' := [(4, .int (nI (lpM S n k t (sg + 1)))), (6, .int (nI (1 + (mstN S n (k + 1) (t ||| (2 ^ sg)))))), (0, .ref (c 0)), (1, .int (nI (2 ^ S.str))), (2, .int (nI k)), (3, .int (nI t)), (5, .int (nI sg))]) hx hb dX11_tellMost_146 hl (by decide) rfl (fun ls hl => ?_)
  refine lv_iinc (v := nI (sg + 1)) (lv' := [(5, .int (nI (sg + 1))), (4, .int (nI (lpM S n k t (sg + 1)))), (6, .int (nI (1 + (mstN S n (k + 1) (t ||| (2 ^ sg)))))), (0, .ref (c 0)), (1, .int (nI (2 ^ S.str))), (2, .int (nI k)), (3, .int (nI t))]) hx hb dX11_tellMost_148 hl (k := 6) rfl (nI_inc _) (by decide) rfl (fun ls hl => ?_)
  refine lv_goto (tgt := 79) hx hb dX11_tellMost_151 (by decide) ?_
  exact ih (sg + 1) (by omega) (by omega) ls (lv_sub hl [3, 4, 5, 6, 1, 0] rfl)
