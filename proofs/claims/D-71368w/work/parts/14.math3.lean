/-! the model's ways of saying the same -/
set_option maxRecDepth 100000
theorem wid_m {a : Nat → Nat} {s : Nat} (h : a 0 ≤ 1) : 1 + (if (if a 0 = 1 then 0 else a (19 + s)) < a (1 + s) then a (1 + s) else (if a 0 = 1 then 0 else a (19 + s))) = wid a s := by
  unfold wid
  by_cases h0 : a 0 = 0
  · have h1 : ¬ a 0 = 1 := by omega
    simp only [h0, h1, if_true, if_false]
    simp
    split <;> omega
  · have h1 : a 0 = 1 := by omega
    simp [h1]
    omega
theorem wby_m {t d : Nat} (h : t ≤ 1) : 1 + (if (if t = 1 then 0 else d % 10) < d / 10 then d / 10 else (if t = 1 then 0 else d % 10)) = wby t (d / 10) (d % 10) := by
  unfold wby
  by_cases h0 : t = 0
  · subst h0
    simp
    split <;> omega
  · have h1 : t = 1 := by omega
    subst h1
    simp
    omega
theorem all_tb {n s : Nat} (h : s < n) : (2 ^ n - 1).testBit s = true := by rw [Nat.testBit_two_pow_sub_one, decide_eq_true h]
theorem sum_all {S : St} {i : Nat} (h : i < S.str) : sumF S (2 ^ S.str - 1) i + wid S.now i = sumF S (2 ^ S.str - 1) (i + 1) := by
  show _ = _ + (if _ then _ else _)
  rw [if_pos (all_tb h)]
theorem wide0 {S : St} : wideF S 0 S.str = 2 ^ S.str - 1 := by
  have key : ∀ n, wideF S 0 n = 2 ^ n - 1 := by
    intro n
    induction n with
    | zero => rfl
    | succ n ih =>
      show wideF S 0 n ||| (if _ then _ else _) = _
      rw [ih, if_pos (Nat.zero_le _)]
      apply Nat.eq_of_testBit_eq
      intro i
      rw [Nat.testBit_or, Nat.testBit_two_pow_sub_one, Nat.testBit_two_pow_sub_one, Nat.testBit_two_pow]
      by_cases h : i = n
      · subst h; simp
      · rw [decide_eq_false (Ne.symm h), Bool.or_false]
        exact decide_eq_decide.mpr (by omega)
  exact key _
theorem nextF_sub {S : St} {met sm k : Nat} (h : met.testBit k = true) : ∀ n, (nextF S met sm n).testBit k = true
  | 0 => h
  | n + 1 => by
    have ih := nextF_sub (S := S) (sm := sm) h n
    show (if _ then _ else _ : Nat).testBit k = true
    split
    · rw [Nat.testBit_or, Nat.testBit_or, ih]; rfl
    · exact ih
theorem next_step {S : St} {met sm i : Nat} : nextF S met sm i ||| (if sm.testBit i = true ∧ (met.testBit (S.one i) || met.testBit (S.oth i)) = true then 2 ^ S.one i ||| 2 ^ S.oth i else 0) = nextF S met sm (i + 1) := by
  show _ = (if _ then _ else _)
  by_cases h0 : sm.testBit i = true
  · rw [if_pos h0]
    apply Nat.eq_of_testBit_eq
    intro k
    have key := fun h => nextF_sub (S := S) (met := met) (sm := sm) (k := k) h i
    cases h1 : met.testBit (S.one i) <;> cases h2 : met.testBit (S.oth i)
    · rw [if_neg (by simp), if_neg (by decide), if_neg (by decide)]; simp
    · rw [if_pos ⟨h0, rfl⟩, if_neg (by decide), if_pos rfl]
      simp only [Nat.testBit_or, Nat.testBit_two_pow, Nat.zero_testBit, Bool.or_false]
      by_cases e : S.oth i = k
      · subst e; rw [key h2]; simp
      · rw [decide_eq_false e, Bool.or_false]
    · rw [if_pos ⟨h0, rfl⟩, if_pos rfl, if_neg (by decide)]
      simp only [Nat.testBit_or, Nat.testBit_two_pow, Nat.zero_testBit, Bool.or_false]
      by_cases e : S.one i = k
      · subst e; rw [key h1]; simp
      · rw [decide_eq_false e, Bool.false_or]
    · rw [if_pos ⟨h0, rfl⟩, if_pos rfl, if_pos rfl]
      simp only [Nat.testBit_or]
      cases (nextF S met sm i).testBit k <;> cases (2 ^ S.one i).testBit k <;> cases (2 ^ S.oth i).testBit k <;> rfl
  · rw [if_neg h0, if_neg (fun q => h0 q.1), Nat.or_zero]
theorem bits_step {a i : Nat} : bitsF a i + (a / 2 ^ i &&& 1) = bitsF a (i + 1) := by rw [tb_1]; rfl
theorem minF_s {Q : Nat → Bool} {k : Nat} : minF Q (k + 1) = stU Q (minF Q k) k := rfl
/-- the model's search for the least cut: what is found, how wide it is -/
def betF (S : St) (r : Option Nat) (m v : Nat) : Bool := match r with
  | none => true
  | some u => decide (sumF S v S.str < m) || (decide (sumF S v S.str = m) && decide (bits v < bits u))
def dis (S : St) (a b v : Nat) : Bool := !comF S a b (andn (2 ^ S.str - 1) v)
def flP (S : St) (a b : Nat) : Nat → Option Nat × Nat
  | 0 => (none, 0)
  | k + 1 => if (betF S (flP S a b k).1 (flP S a b k).2 k && dis S a b k) = true then (some k, sumF S k S.str) else flP S a b k
def ansFlow (S : St) (a b w : Int32) : Int32 := if arY S a b = true then (if inI w (nI 0) (nI 1) = true then (if w = nI 0 then nI (flP S (idx a) (idx b) (2 ^ S.str)).2 else oI (flP S (idx a) (idx b) (2 ^ S.str)).1) else -1) else -1
theorem flP_lt {S : St} {a b u : Nat} : ∀ n, (flP S a b n).1 = some u → u < n
  | 0, h => by cases h
  | n + 1, h => by
    have h : (if _ then _ else _ : Option Nat × Nat).1 = some u := h
    split at h
    · have e : n = u := Option.some.inj h
      omega
    · have := flP_lt n h
      omega
theorem flP_le {S : St} (hI : StOk S) {a b : Nat} : ∀ n, (flP S a b n).2 ≤ 90
  | 0 => by show 0 ≤ 90; omega
  | n + 1 => by
    show (if _ then _ else _ : Option Nat × Nat).2 ≤ 90
    split
    · have h1 := sumF_le hI (set := n) S.str (Nat.le_refl _)
      have h2 := hI.str
      show sumF S n S.str ≤ 90
      omega
    · exact flP_le hI n
/-! odds, the closed streets' way -/
def prF (x v : Nat) : Nat → Nat
  | 0 => 1
  | s + 1 => prF x v s * (if v.testBit s = true then x else 10 - x)
theorem prF_eq (x v : Nat) : ∀ n, prF x v n = (10 - x) ^ (n - bitsF v n) * x ^ bitsF v n
  | 0 => by simp [prF, bitsF]
  | n + 1 => by
    have h := bitsF_le v n
    show prF x v n * _ = (10 - x) ^ (n + 1 - (bitsF v n + _)) * x ^ (bitsF v n + _)
    rw [prF_eq x v n]
    split
    · rw [show n + 1 - (bitsF v n + 1) = n - bitsF v n by omega, Nat.pow_succ, Nat.mul_assoc]
    · rw [show n + 1 - (bitsF v n + 0) = (n - bitsF v n) + 1 by omega, Nat.pow_succ, Nat.add_zero]
      ac_rfl
theorem bits_com {n v : Nat} (hv : v < 2 ^ n) (hn : n ≤ 10) : bits (2 ^ n - 1 - v) = n - bits v := by
  have key : ∀ k, k ≤ n → bitsF (2 ^ n - 1 - v) k + bitsF v k = k := by
    intro k
    induction k with
    | zero => intro _; rfl
    | succ k ih =>
      intro hk
      have h1 := ih (by omega)
      have h2 : (2 ^ n - 1 - v).testBit k = !v.testBit k := by
        rw [show 2 ^ n - 1 - v = 2 ^ n - (v + 1) by omega, Nat.testBit_two_pow_sub_succ hv, decide_eq_true (by omega)]; rfl
      show (bitsF (2 ^ n - 1 - v) k + (if _ then _ else _)) + (bitsF v k + (if _ then _ else _)) = k + 1
      rw [h2]
      cases v.testBit k <;> simp <;> omega
  have h3 : 2 ^ n - 1 - v < 2 ^ n := by have := Nat.two_pow_pos n; omega
  have h4 := key n (Nat.le_refl _)
  unfold bits
  rw [bitsF_hi h3 10 hn, bitsF_hi hv 10 hn]
  omega
theorem pr_od {S : St} (hI : StOk S) {a b x k : Nat} (hk : k < 2 ^ S.str) : (if 0 < prF x k S.str ∧ comF S a b (andn (2 ^ S.str - 1) k) = true then prF x k S.str else 0) = odG S a b x (2 ^ S.str - 1 - k) := by
  have hs := hI.str
  have h1 : prF x k S.str = (10 - x) ^ bits (2 ^ S.str - 1 - k) * x ^ (S.str - bits (2 ^ S.str - 1 - k)) := by
    have hb := bits_le hk (by omega)
    rw [prF_eq, bits_com hk (by omega), show S.str - (S.str - bits k) = bits k by omega]
    unfold bits
    rw [bitsF_hi hk 10 (by omega)]
  rw [andn_all hk]
  unfold odG
  rw [← h1]
  by_cases h2 : comF S a b (2 ^ S.str - 1 - k) = true
  · rw [if_pos h2]
    by_cases h3 : 0 < prF x k S.str
    · rw [if_pos ⟨h3, h2⟩]
    · rw [if_neg (fun q => h3 q.1)]; omega
  · rw [if_neg h2, if_neg (fun q => h2 q.2)]
theorem prF_le (x v : Nat) (hx : x ≤ 10) : ∀ n, prF x v n ≤ 10 ^ n
  | 0 => Nat.le_refl _
  | n + 1 => by
    rw [Nat.pow_succ]
    refine Nat.mul_le_mul (prF_le x v hx n) ?_
    split <;> omega
/-! the first deed, from above -/
def FstIn (P : Nat → Bool) (lo hi : Nat) : Option Nat → Prop
  | none => ∀ v, lo ≤ v → v < hi → P v = false
  | some u => lo ≤ u ∧ u < hi ∧ P u = true ∧ ∀ v, lo ≤ v → v < u → P v = false
theorem FstIn.uniq {P : Nat → Bool} {lo hi : Nat} {r q : Option Nat} (h : FstIn P lo hi r) (g : FstIn P lo hi q) : r = q := by
  cases r with
  | none =>
    cases q with
    | none => rfl
    | some u => have := h u g.1 g.2.1; rw [g.2.2.1] at this; cases this
  | some w =>
    cases q with
    | none => have := g w h.1 h.2.1; rw [h.2.2.1] at this; cases this
    | some u =>
      rcases Nat.lt_trichotomy w u with z | z | z
      · have := g.2.2.2 w h.1 z; rw [h.2.2.1] at this; cases this
      · rw [z]
      · have := h.2.2.2 u g.1 z; rw [g.2.2.1] at this; cases this
theorem cnt_0 {P : Nat → Bool} : ∀ n, cntP P n = 0 → ∀ v, v < n → P v = false
  | 0, _, v, h => absurd h (Nat.not_lt_zero v)
  | n + 1, e, v, h => by
    have e : cntP P n + (if P n = true then 1 else 0) = 0 := e
    rcases Nat.lt_or_ge v n with z | z
    · exact cnt_0 n (by omega) v z
    · rw [show v = n by omega]
      cases hp : P n with
      | false => rfl
      | true => rw [hp, if_pos rfl] at e; omega
theorem fstP_is (P : Nat → Bool) : ∀ n, FstIn P 0 n (fstP P n)
  | 0 => fun v _ h => absurd h (Nat.not_lt_zero v)
  | n + 1 => by
    have ih := fstP_is P n
    show FstIn P 0 (n + 1) (if _ then (if _ then _ else _) else _)
    cases hp : P n with
    | false =>
      rw [if_neg (by decide)]
      cases hr : fstP P n with
      | none =>
        rw [hr] at ih
        intro v _ h
        rcases Nat.lt_or_ge v n with z | z
        · exact ih v (Nat.zero_le _) z
        · rw [show v = n by omega]; exact hp
      | some u => rw [hr] at ih; exact ⟨ih.1, by have := ih.2.1; omega, ih.2.2⟩
    | true =>
      rw [if_pos rfl]
      by_cases hc : cntP P n = 0
      · rw [if_pos hc]
        exact ⟨Nat.zero_le _, by omega, hp, fun v _ h => cnt_0 n hc v h⟩
      · rw [if_neg hc]
        cases hr : fstP P n with
        | none =>
          rw [hr] at ih
          exfalso
          apply hc
          have key : ∀ m, m ≤ n → cntP P m = 0 := by
            intro m
            induction m with
            | zero => intro _; rfl
            | succ m im =>
              intro hm
              show cntP P m + (if _ then _ else _) = 0
              rw [im (by omega), if_neg (by rw [ih m (Nat.zero_le _) (by omega)]; decide)]
          exact key n (Nat.le_refl _)
        | some u => rw [hr] at ih; exact ⟨ih.1, by have := ih.2.1; omega, ih.2.2⟩
theorem FstIn.hit {P : Nat → Bool} {k hi : Nat} (hk : k < hi) (h : P k = true) : FstIn P k hi (some k) := ⟨Nat.le_refl _, hk, h, fun v h1 h2 => by omega⟩
theorem FstIn.miss {P : Nat → Bool} {k hi : Nat} {r : Option Nat} (h : FstIn P (k + 1) hi r) (hp : P k = false) : FstIn P k hi r := by
  cases r with
  | none =>
    intro v h1 h2
    rcases Nat.lt_or_ge k v with z | z
    · exact h v z h2
    · rw [show v = k by omega]; exact hp
  | some u =>
    refine ⟨by have := h.1; omega, h.2.1, h.2.2.1, fun v h1 h2 => ?_⟩
    rcases Nat.lt_or_ge k v with z | z
    · exact h.2.2.2 v z h2
    · rw [show v = k by omega]; exact hp
theorem max_m {a b : Nat} : (if a < b then b else a) = max a b := by split <;> omega
def bodF (v : Int32) : Nat := if v = nI 0 then 1 else if v = nI 1 then 3 else if v = nI 2 then 5 else if v = nI 3 then 11 else if v = nI 4 then 21 else 33
