/-! what the methods compute, as plain functions -/
set_option maxRecDepth 100000
theorem bnf {b : Bool} (h : b = false) : ¬ b = true := by rw [h]; decide
theorem nI_max {a b : Nat} (ha : a < 2147483648) (hb : b < 2147483648) : (if nI a < nI b then nI b else nI a) = nI (max a b) := by
  by_cases h : a < b
  · rw [if_pos ((nI_ltI ha hb).mpr h), Nat.max_eq_right (by omega)]
  · rw [if_neg (fun q => h ((nI_ltI ha hb).mp q)), Nat.max_eq_left (by omega)]
theorem nI_min {a b : Nat} (ha : a < 2147483648) (hb : b < 2147483648) : (if nI b < nI a then nI b else nI a) = nI (min a b) := by
  by_cases h : b < a
  · rw [if_pos ((nI_ltI hb ha).mpr h), Nat.min_eq_right (by omega)]
  · rw [if_neg (fun q => h ((nI_ltI hb ha).mp q)), Nat.min_eq_left (by omega)]
theorem tb_iff {a j : Nat} : (a / 2 ^ j) &&& 1 = 1 ↔ a.testBit j = true := by
  rw [Nat.testBit_eq_decide_div_mod_eq, decide_eq_true_eq, Nat.and_one_is_mod]
/-- how wide a street is in an age -/
def wid (a : Nat → Nat) (s : Nat) : Nat := 1 + (if a 0 = 0 then max (a (1 + s)) (a (19 + s)) else a (1 + s))
def livF (a : Nat → Nat) (s : Nat) : Nat → Nat
  | 0 => 0
  | p + 1 => livF a s p ||| (if a (28 + p) = s then 2 ^ p else 0)
def meetF (S : St) (s t : Nat) : Bool := decide (S.one s = S.one t ∨ S.one s = S.oth t ∨ S.oth s = S.one t ∨ S.oth s = S.oth t)
def witF (S : St) (p : Nat) : Nat → Nat
  | 0 => 0
  | q + 1 => witF S p q ||| (if q ≠ p ∧ meetF S (S.now (28 + p)) (S.now (28 + q)) = true then 2 ^ q else 0)
def nextF (S : St) (met some : Nat) : Nat → Nat
  | 0 => met
  | s + 1 => if some.testBit s = true then (nextF S met some s ||| (if met.testBit (S.one s) = true then 2 ^ S.oth s else 0)) ||| (if met.testBit (S.oth s) = true then 2 ^ S.one s else 0) else nextF S met some s
def metF (S : St) (a some : Nat) : Nat → Nat
  | 0 => 2 ^ a
  | n + 1 => nextF S (metF S a some n) some S.str
def scanF (f : Nat → Bool) : Nat → Nat → Int32
  | _, 0 => -9
  | n, k + 1 => if f n = true then nI n else scanF f (n + 1) k
def farF (S : St) (a b some : Nat) : Int32 := scanF (fun n => (metF S a some n).testBit b) 0 8
def comF (S : St) (a b some : Nat) : Bool := decide (farF S a b some ≠ -9)
def wideF (S : St) (w : Nat) : Nat → Nat
  | 0 => 0
  | s + 1 => wideF S w s ||| (if w ≤ wid S.now s then 2 ^ s else 0)
def sumF (S : St) (set : Nat) : Nat → Nat
  | 0 => 0
  | s + 1 => sumF S set s + (if set.testBit s = true then wid S.now s else 0)
def hidF (S : St) : Nat → Nat
  | 0 => 0
  | s + 1 => hidF S s + (if 0 < S.now (10 + s) then 1 else 0)
theorem or_lt {a b k : Nat} (ha : a < 2 ^ k) (hb : b < 2 ^ k) : a ||| b < 2 ^ k := Nat.or_lt_two_pow ha hb
theorem pw_lt {a b : Nat} (h : a < b) : 2 ^ a < 2 ^ b := Nat.pow_lt_pow_right (by omega) h
theorem livF_lt {a : Nat → Nat} {s : Nat} : ∀ n, livF a s n < 2 ^ n
  | 0 => by show 0 < 2 ^ 0; decide
  | n + 1 => by
    refine or_lt (Nat.lt_trans (livF_lt n) (pw_lt (by omega))) ?_
    split
    · exact pw_lt (by omega)
    · exact Nat.two_pow_pos _
theorem witF_lt {S : St} {p : Nat} : ∀ n, witF S p n < 2 ^ n
  | 0 => by show 0 < 2 ^ 0; decide
  | n + 1 => by
    refine or_lt (Nat.lt_trans (witF_lt n) (pw_lt (by omega))) ?_
    split
    · exact pw_lt (by omega)
    · exact Nat.two_pow_pos _
theorem wideF_lt {S : St} {w : Nat} : ∀ n, wideF S w n < 2 ^ n
  | 0 => by show 0 < 2 ^ 0; decide
  | n + 1 => by
    refine or_lt (Nat.lt_trans (wideF_lt n) (pw_lt (by omega))) ?_
    split
    · exact pw_lt (by omega)
    · exact Nat.two_pow_pos _
theorem nextF_lt {S : St} (hI : StOk S) {met some : Nat} (hm : met < 256) : ∀ n, n ≤ S.str → nextF S met some n < 256
  | 0, _ => hm
  | n + 1, h => by
    have h1 := nextF_lt hI hm (some := some) n (by omega)
    have y := hI.yds
    have p8 : ∀ x, x < S.yds → 2 ^ x < 2 ^ 8 := fun x hx => pw_lt (by omega)
    have a1 := p8 _ (hI.one n (by omega))
    have a2 := p8 _ (hI.oth n (by omega))
    show (if _ then _ else _) < 2 ^ 8
    split
    · refine or_lt (or_lt h1 ?_) ?_
      · split
        · exact a2
        · decide
      · split
        · exact a1
        · decide
    · exact h1
theorem metF_lt {S : St} (hI : StOk S) {a some : Nat} (ha : a < 8) : ∀ n, metF S a some n < 256
  | 0 => by show 2 ^ a < 2 ^ 8; exact pw_lt ha
  | n + 1 => nextF_lt hI (metF_lt hI ha n) _ (Nat.le_refl _)
theorem wid_le {S : St} {a : Nat → Nat} (h : AgIn S a) {s : Nat} (hs : s < S.str) : 1 ≤ wid a s ∧ wid a s ≤ 10 := by
  have h1 := h.seen s hs
  have h2 := h.faked s hs
  unfold wid
  split <;> omega
theorem sumF_le {S : St} (hI : StOk S) {set : Nat} : ∀ n, n ≤ S.str → sumF S set n ≤ 10 * n
  | 0, _ => by show 0 ≤ _; omega
  | n + 1, h => by
    have h1 := sumF_le hI (set := set) n (by omega)
    have h2 := (wid_le hI.now (show n < S.str by omega)).2
    show sumF S set n + _ ≤ _
    split <;> omega
theorem hidF_le {S : St} : ∀ n, hidF S n ≤ n
  | 0 => by show 0 ≤ _; omega
  | n + 1 => by
    have h1 := hidF_le (S := S) n
    show hidF S n + _ ≤ _
    split <;> omega
def idx (v : Int32) : Nat := v.toInt.toNat
theorem idx_nI {j : Nat} (h : j < 2147483648) : idx (nI j) = j := by unfold idx; rw [nI_toInt (by omega)]; rfl
def arY (S : St) (a b : Int32) : Bool := ixI a S.yds && ixI b S.yds && decide (a ≠ b)
theorem arY_of {S : St} (hI : StOk S) {a b : Int32} (h : arY S a b = true) : ∃ i j : Nat, i < S.yds ∧ j < S.yds ∧ i ≠ j ∧ a = nI i ∧ b = nI j := by
  simp only [arY, Bool.and_eq_true, decide_eq_true_eq] at h
  obtain ⟨⟨h1, h2⟩, h3⟩ := h
  obtain ⟨i, hi, rfl⟩ := ixI_of h1
  obtain ⟨j, hj, rfl⟩ := ixI_of h2
  exact ⟨i, j, hi, hj, fun q => h3 (by rw [q]), rfl, rfl⟩
def ansStreet (S : St) (v w : Int32) : Int32 := if ixI v S.str = true then (if w = nI 0 then nI (S.one (idx v)) else if w = nI 1 then nI (S.oth (idx v)) else if w = nI 2 then nI (S.now (1 + idx v)) else if w = nI 3 then nI (S.now (10 + idx v)) else if w = nI 4 then nI (S.now (19 + idx v)) else if w = nI 5 then nI (wid S.now (idx v)) else if w = nI 6 then nI (livF S.now (idx v) S.ppl) else -1) else -1
def ansCitizen (S : St) (v w : Int32) : Int32 := if ixI v S.ppl = true then (if w = nI 0 then nI (S.now (28 + idx v)) else if w = nI 1 then nI (S.wnt (idx v)) else if w = nI 2 then nI (witF S (idx v) S.ppl) else -1) else -1
def ansNow (S : St) (w : Int32) : Int32 := if w = nI 0 then nI (S.now 0) else if w = nI 1 then nI (sumF S (2 ^ S.str - 1) S.str) else if w = nI 2 then nI (hidF S S.str) else -1
def wdst (S : St) (a b : Nat) : Nat → Int32
  | 0 => -9
  | k + 1 => if comF S a b (wideF S (k + 1) S.str) = true then nI (k + 1) else wdst S a b k
def ansWidest (S : St) (a b : Int32) : Int32 := if arY S a b = true then wdst S (idx a) (idx b) 10 else -1
def ansWay (S : St) (a b w : Int32) : Int32 := if arY S a b = true then (if inI w (nI 1) (nI 10) = true then farF S (idx a) (idx b) (wideF S (idx w) S.str) else -1) else -1
theorem p512 {k : Nat} (h : k ≤ 9) : 2 ^ k ≤ 512 := Nat.pow_le_pow_right (by omega) h
theorem p256 {k : Nat} (h : k ≤ 8) : 2 ^ k ≤ 256 := Nat.pow_le_pow_right (by omega) h
