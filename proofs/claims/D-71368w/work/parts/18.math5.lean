/-! carriages: how many can have theirs, and the first way -/
set_option maxRecDepth 100000
def okC (S : St) (p tk s : Nat) : Bool := !tk.testBit s && decide (S.wnt p ≤ wid S.now s)
def lpG (ok : Nat → Bool) (f : Nat → Nat) (b : Nat) : Nat → Nat
  | 0 => b
  | s + 1 => if ok s = true then max (lpG ok f b s) (f s) else lpG ok f b s
def mstN (S : St) : Nat → Nat → Nat → Nat
  | 0, _, _ => 0
  | n + 1, p, tk => lpG (okC S p tk) (fun s => 1 + mstN S n (p + 1) (tk ||| 2 ^ s)) (mstN S n (p + 1) tk) S.str
theorem lpG_b {ok : Nat → Bool} {f : Nat → Nat} {b : Nat} : ∀ n, b ≤ lpG ok f b n
  | 0 => Nat.le_refl _
  | n + 1 => by
    have := lpG_b (ok := ok) (f := f) (b := b) n
    have e : lpG ok f b (n + 1) = if ok n = true then max (lpG ok f b n) (f n) else lpG ok f b n := rfl
    rw [e]
    by_cases h : ok n = true
    · rw [if_pos h]; exact Nat.le_trans this (Nat.le_max_left _ _)
    · rw [if_neg h]; exact this
theorem lpG_f {ok : Nat → Bool} {f : Nat → Nat} {b s : Nat} (h : ok s = true) : ∀ n, s < n → f s ≤ lpG ok f b n
  | 0, q => absurd q (Nat.not_lt_zero s)
  | n + 1, q => by
    have e0 : lpG ok f b (n + 1) = if ok n = true then max (lpG ok f b n) (f n) else lpG ok f b n := rfl
    rw [e0]
    by_cases e : s = n
    · subst e; rw [if_pos h]; exact Nat.le_max_right _ _
    · have := lpG_f (f := f) (b := b) h n (by omega)
      by_cases h2 : ok n = true
      · rw [if_pos h2]; exact Nat.le_trans this (Nat.le_max_left _ _)
      · rw [if_neg h2]; exact this
theorem lpG_is {ok : Nat → Bool} {f : Nat → Nat} {b : Nat} : ∀ n, lpG ok f b n = b ∨ ∃ s, s < n ∧ ok s = true ∧ lpG ok f b n = f s
  | 0 => Or.inl rfl
  | n + 1 => by
    have ih := lpG_is (ok := ok) (f := f) (b := b) n
    have e0 : lpG ok f b (n + 1) = if ok n = true then max (lpG ok f b n) (f n) else lpG ok f b n := rfl
    rw [e0]
    by_cases h : ok n = true
    · rw [if_pos h]
      rcases Nat.le_total (lpG ok f b n) (f n) with z | z
      · exact Or.inr ⟨n, by omega, h, by rw [Nat.max_eq_right z]⟩
      · rw [Nat.max_eq_left z]
        rcases ih with q | ⟨s, q1, q2, q3⟩
        · exact Or.inl q
        · exact Or.inr ⟨s, by omega, q2, q3⟩
    · rw [if_neg h]
      rcases ih with q | ⟨s, q1, q2, q3⟩
      · exact Or.inl q
      · exact Or.inr ⟨s, by omega, q2, q3⟩
theorem mstN_le (S : St) : ∀ n p tk, mstN S n p tk ≤ n
  | 0, _, _ => Nat.le_refl _
  | n + 1, p, tk => by
    show lpG _ _ _ _ ≤ n + 1
    rcases lpG_is (ok := okC S p tk) (f := fun s => 1 + mstN S n (p + 1) (tk ||| 2 ^ s)) (b := mstN S n (p + 1) tk) S.str with q | ⟨s, _, _, q⟩
    · rw [q]; have := mstN_le S n (p + 1) tk; omega
    · rw [q]; have := mstN_le S n (p + 1) (tk ||| 2 ^ s); omega
/-- who takes which: the first street by which the most stays within reach -/
def chP (S : St) (n p tk s : Nat) : Bool := okC S p tk s && decide (1 + mstN S n (p + 1) (tk ||| 2 ^ s) = mstN S (n + 1) p tk)
def chF (S : St) (n p tk : Nat) : Option Nat := fstP (chP S n p tk) S.str
def bitO : Option Nat → Nat
  | none => 0
  | some s => 2 ^ s
def cmpF (S : St) : Nat → Nat → Nat → Nat → Option Nat
  | 0, _, _, _ => none
  | n + 1, p, tk, i => if i = p then chF S n p tk else cmpF S n (p + 1) (tk ||| bitO (chF S n p tk)) i
def ansCar (S : St) (v : Int32) : Int32 := if v = -1 then nI (mstN S S.ppl 0 0) else if ixI v S.ppl = true then oI (cmpF S S.ppl 0 0 (idx v)) else -1
theorem dn_le {a g : Nat} (ha : a < 1000) (hg : g < 1000) : nI a ≤ dn g ↔ a < g := by
  cases g with
  | zero =>
    have h1 : ¬ nI a ≤ dn 0 := by
      rw [Int32.le_iff_toInt_le, nI_toInt (by omega), show (dn 0).toInt = -1 from by decide]; omega
    exact ⟨fun q => absurd q h1, fun q => absurd q (Nat.not_lt_zero a)⟩
  | succ g => rw [dn_s, nI_leI (by omega) (by omega)]; omega
/-- the best given so far -/
def BestOf (S : St) (G : Nat → Int32) (p n tk : Nat) (B : Nat → Int32) : Prop := (∀ i, i < p → B i = G i) ∧ ∀ i, p ≤ i → i < S.ppl → B i = oI (cmpF S n p tk i)
/-- what a search from person p on leaves: the old best, or a better one -/
def GvR (S : St) (n p tk many g : Nat) (G B0 : Nat → Int32) (g' : Nat) (B : Nat → Int32) : Prop :=
  (g ≤ many + mstN S n p tk ∧ g' = many + mstN S n p tk + 1 ∧ BestOf S G p n tk B) ∨ (many + mstN S n p tk < g ∧ g' = g ∧ B = B0)
/-- in the loop, streets below i have been tried -/
def GvL (S : St) (n p tk many g : Nat) (G B0 : Nat → Int32) (i g' : Nat) (B : Nat → Int32) : Prop :=
  (g' = g ∧ B = B0 ∧ ∀ s, s < i → okC S p tk s = true → many + 1 + mstN S n (p + 1) (tk ||| 2 ^ s) < g) ∨
  ∃ s0, s0 < i ∧ okC S p tk s0 = true ∧ g ≤ many + 1 + mstN S n (p + 1) (tk ||| 2 ^ s0) ∧ g' = many + 1 + mstN S n (p + 1) (tk ||| 2 ^ s0) + 1 ∧
    (∀ k, k < p → B k = G k) ∧ B p = nI s0 ∧ (∀ k, p + 1 ≤ k → k < S.ppl → B k = oI (cmpF S n (p + 1) (tk ||| 2 ^ s0) k)) ∧
    ∀ s, s < i → okC S p tk s = true → mstN S n (p + 1) (tk ||| 2 ^ s) ≤ mstN S n (p + 1) (tk ||| 2 ^ s0) ∧ (s < s0 → mstN S n (p + 1) (tk ||| 2 ^ s) < mstN S n (p + 1) (tk ||| 2 ^ s0))
theorem GvL.skip {S : St} {n p tk many g i g' : Nat} {G B0 B : Nat → Int32} (h : GvL S n p tk many g G B0 i g' B) (hk : okC S p tk i = false) : GvL S n p tk many g G B0 (i + 1) g' B := by
  rcases h with ⟨h1, h2, h3⟩ | ⟨s0, h1, h2, h3, h4, h5, h6, h7, h8⟩
  · refine Or.inl ⟨h1, h2, fun s hs ho => ?_⟩
    by_cases e : s = i
    · rw [e, hk] at ho; cases ho
    · exact h3 s (by omega) ho
  · refine Or.inr ⟨s0, by omega, h2, h3, h4, h5, h6, h7, fun s hs ho => ?_⟩
    by_cases e : s = i
    · rw [e, hk] at ho; cases ho
    · exact h8 s (by omega) ho
theorem GvL.try {S : St} {n p tk many g i g' g2 : Nat} {G G1 B0 B B2 : Nat → Int32} (h : GvL S n p tk many g G B0 i g' B) (hk : okC S p tk i = true) (hG : ∀ k, k < p → G1 k = G k) (hGp : G1 p = nI i) (hr : GvR S n (p + 1) (tk ||| 2 ^ i) (many + 1) g' G1 B g2 B2) : GvL S n p tk many g G B0 (i + 1) g2 B2 := by
  have key : BestOf S G1 (p + 1) n (tk ||| 2 ^ i) B2 → (∀ k, k < p → B2 k = G k) ∧ B2 p = nI i ∧ ∀ k, p + 1 ≤ k → k < S.ppl → B2 k = oI (cmpF S n (p + 1) (tk ||| 2 ^ i) k) :=
    fun hb => ⟨fun k hkp => (hb.1 k (by omega)).trans (hG k hkp), (hb.1 p (by omega)).trans hGp, hb.2⟩
  rcases h with ⟨h1, h2, h3⟩ | ⟨s0, h1, h2, h3, h4, h5, h6, h7, h8⟩
  · rcases hr with ⟨r1, r2, r3⟩ | ⟨r1, r2, r3⟩
    · obtain ⟨k1, k2, k3⟩ := key r3
      refine Or.inr ⟨i, by omega, hk, by omega, r2, k1, k2, k3, fun s hs ho => ?_⟩
      by_cases e : s = i
      · rw [e]; exact ⟨Nat.le_refl _, fun q => absurd q (Nat.lt_irrefl _)⟩
      · have := h3 s (by omega) ho
        exact ⟨by omega, fun _ => by omega⟩
    · refine Or.inl ⟨by omega, r3.trans h2, fun s hs ho => ?_⟩
      by_cases e : s = i
      · rw [e]; omega
      · exact h3 s (by omega) ho
  · rcases hr with ⟨r1, r2, r3⟩ | ⟨r1, r2, r3⟩
    · obtain ⟨k1, k2, k3⟩ := key r3
      refine Or.inr ⟨i, by omega, hk, by omega, r2, k1, k2, k3, fun s hs ho => ?_⟩
      by_cases e : s = i
      · rw [e]; exact ⟨Nat.le_refl _, fun q => absurd q (Nat.lt_irrefl _)⟩
      · have := (h8 s (by omega) ho).1
        exact ⟨by omega, fun _ => by omega⟩
    · rw [r3, r2]
      refine Or.inr ⟨s0, by omega, h2, h3, h4, h5, h6, h7, fun s hs ho => ?_⟩
      by_cases e : s = i
      · rw [e]; exact ⟨by omega, fun q => by omega⟩
      · exact h8 s (by omega) ho
theorem oI_some (s : Nat) : oI (some s) = nI s := rfl
theorem GvL.end {S : St} {n p tk many g g' g2 : Nat} {G G1 B0 B B2 : Nat → Int32} (h : GvL S n p tk many g G B0 S.str g' B) (hG : ∀ k, k < p → G1 k = G k) (hGp : G1 p = -9) (hr : GvR S n (p + 1) tk many g' G1 B g2 B2) : GvR S (n + 1) p tk many g G B0 g2 B2 := by
  have m1 : mstN S n (p + 1) tk ≤ mstN S (n + 1) p tk := lpG_b _
  have m2 : ∀ s, s < S.str → okC S p tk s = true → 1 + mstN S n (p + 1) (tk ||| 2 ^ s) ≤ mstN S (n + 1) p tk := fun s hs ho => lpG_f (f := fun s => 1 + mstN S n (p + 1) (tk ||| 2 ^ s)) ho _ hs
  have m3 : mstN S (n + 1) p tk = mstN S n (p + 1) tk ∨ ∃ s, s < S.str ∧ okC S p tk s = true ∧ mstN S (n + 1) p tk = 1 + mstN S n (p + 1) (tk ||| 2 ^ s) := lpG_is _
  have chN : (∀ s, s < S.str → okC S p tk s = true → 1 + mstN S n (p + 1) (tk ||| 2 ^ s) < mstN S (n + 1) p tk) → chF S n p tk = none := by
    intro hh
    refine FstIn.uniq (fstP_is _ _) (show FstIn (chP S n p tk) 0 S.str none from fun v _ hv => ?_)
    unfold chP
    cases ho : okC S p tk v with
    | false => rfl
    | true => rw [decide_eq_false (by have := hh v hv ho; omega)]; rfl
  have bestN : (∀ s, s < S.str → okC S p tk s = true → 1 + mstN S n (p + 1) (tk ||| 2 ^ s) < mstN S (n + 1) p tk) → BestOf S G1 (p + 1) n tk B2 → BestOf S G p (n + 1) tk B2 := by
    intro hh hb
    refine ⟨fun i hi => (hb.1 i (by omega)).trans (hG i hi), fun i h1 h2 => ?_⟩
    show B2 i = oI (if _ then _ else _)
    rw [chN hh]
    by_cases e : i = p
    · rw [if_pos e, e, hb.1 p (by omega), hGp]; rfl
    · rw [if_neg e]
      show B2 i = oI (cmpF S n (p + 1) (tk ||| 0) i)
      rw [Nat.or_zero]; exact hb.2 i (by omega) h2
  rcases h with ⟨h1, h2, h3⟩ | ⟨s0, h1, h2, h3, h4, h5, h6, h7, h8⟩
  · rcases hr with ⟨r1, r2, r3⟩ | ⟨r1, r2, r3⟩
    · have hM : mstN S (n + 1) p tk = mstN S n (p + 1) tk := by
        rcases m3 with q | ⟨s, q1, q2, q3⟩
        · exact q
        · have := h3 s q1 q2; omega
      refine Or.inl ⟨by omega, by omega, bestN (fun s q1 q2 => by have := h3 s q1 q2; omega) r3⟩
    · refine Or.inr ⟨?_, by omega, r3.trans h2⟩
      rcases m3 with q | ⟨s, q1, q2, q3⟩
      · omega
      · have := h3 s q1 q2; omega
  · rcases hr with ⟨r1, r2, r3⟩ | ⟨r1, r2, r3⟩
    · have hM : mstN S (n + 1) p tk = mstN S n (p + 1) tk := by
        rcases m3 with q | ⟨s, q1, q2, q3⟩
        · exact q
        · have := (h8 s q1 q2).1; omega
      refine Or.inl ⟨by omega, by omega, bestN (fun s q1 q2 => by have := (h8 s q1 q2).1; omega) r3⟩
    · have hM : mstN S (n + 1) p tk = 1 + mstN S n (p + 1) (tk ||| 2 ^ s0) := by
        have q0 := m2 s0 h1 h2
        rcases m3 with q | ⟨s, q1, q2, q3⟩
        · omega
        · have := (h8 s q1 q2).1; omega
      have hch : chF S n p tk = some s0 := by
        refine FstIn.uniq (fstP_is _ _) (show FstIn (chP S n p tk) 0 S.str (some s0) from ⟨Nat.zero_le _, h1, ?_, fun v _ hv => ?_⟩)
        · unfold chP; rw [h2, decide_eq_true hM.symm]; rfl
        · unfold chP
          cases ho : okC S p tk v with
          | false => rfl
          | true => have := (h8 v (by omega) ho).2 hv; rw [decide_eq_false (by omega)]; rfl
      rw [r3, r2]
      refine Or.inl ⟨by omega, by omega, h5, fun i q1 q2 => ?_⟩
      show B i = oI (if _ then _ else _)
      rw [hch]
      by_cases e : i = p
      · rw [if_pos e, e]; exact h6
      · rw [if_neg e]; exact h7 i (by omega) q2
theorem GvR.leaf {S : St} {p tk m g : Nat} {G B0 B : Nat → Int32} (h : g ≤ m) (hB : ∀ i, i < p → B i = G i) (hp : p = S.ppl) : GvR S 0 p tk m g G B0 (m + 1) B :=
  Or.inl ⟨h, rfl, hB, fun i h1 h2 => by omega⟩
theorem GvR.stay {S : St} {p tk m g : Nat} {G B0 : Nat → Int32} (h : m < g) : GvR S 0 p tk m g G B0 g B0 := Or.inr ⟨h, rfl, rfl⟩
theorem GvR.le {S : St} {n p tk m g g' : Nat} {G B0 B : Nat → Int32} (h : GvR S n p tk m g G B0 g' B) (hm : m ≤ p) (hp : p + n ≤ 6) (hg : g ≤ 7) : g' ≤ 7 := by
  have := mstN_le S n p tk
  rcases h with ⟨_, h, _⟩ | ⟨_, h, _⟩ <;> omega
theorem GvL.zero {S : St} {n p tk m g : Nat} {G B0 : Nat → Int32} : GvL S n p tk m g G B0 0 g B0 := Or.inl ⟨rfl, rfl, fun s h => absurd h (Nat.not_lt_zero s)⟩
theorem okC_has {S : St} {p tk s : Nat} (h : tk.testBit s = true) : okC S p tk s = false := by unfold okC; rw [h]; rfl
theorem okC_lt {S : St} {p tk s : Nat} (h : wid S.now s < S.wnt p) : okC S p tk s = false := by unfold okC; rw [decide_eq_false (by omega)]; exact Bool.and_false _
theorem okC_ok {S : St} {p tk s : Nat} (h1 : tk.testBit s = false) (h2 : ¬ wid S.now s < S.wnt p) : okC S p tk s = true := by unfold okC; rw [h1, decide_eq_true (by omega)]; rfl
