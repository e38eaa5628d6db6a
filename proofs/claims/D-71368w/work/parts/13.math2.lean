/-! sets of streets as bits; the least set; counts -/
set_option maxRecDepth 100000
def bitsF (v : Nat) : Nat → Nat
  | 0 => 0
  | k + 1 => bitsF v k + (if v.testBit k = true then 1 else 0)
def bits (v : Nat) : Nat := bitsF v 10
def andn (a b : Nat) : Nat := a ^^^ (a &&& b)
theorem andn_tb (a b i : Nat) : (andn a b).testBit i = (a.testBit i && !b.testBit i) := by
  unfold andn
  rw [Nat.testBit_xor, Nat.testBit_and]
  cases a.testBit i <;> cases b.testBit i <;> rfl
theorem tb_le {a b : Nat} (h : ∀ i, a.testBit i = true → b.testBit i = true) : a ≤ b := by
  have e : a &&& b = a := Nat.eq_of_testBit_eq (fun i => by
    rw [Nat.testBit_and]
    cases ha : a.testBit i with
    | false => rfl
    | true => rw [h i ha]; rfl)
  rw [← e]; exact Nat.and_le_right
theorem andn_le (a b : Nat) : andn a b ≤ a := by
  refine tb_le (fun i h => ?_)
  rw [andn_tb] at h
  simp only [Bool.and_eq_true] at h
  exact h.1
theorem nI_andn {a b : Nat} : nI a &&& (nI b ^^^ (-1)) = nI (andn a b) := by
  apply Int32.toBitVec_inj.mp
  show (BitVec.ofNat 32 a &&& (BitVec.ofNat 32 b ^^^ (-1 : Int32).toBitVec)) = BitVec.ofNat 32 (andn a b)
  rw [show (-1 : Int32).toBitVec = BitVec.allOnes 32 from by decide]
  apply BitVec.eq_of_getLsbD_eq
  intro i hi
  simp only [BitVec.getLsbD_and, BitVec.getLsbD_xor, BitVec.getLsbD_ofNat, BitVec.getLsbD_allOnes, andn_tb, hi, decide_true, Bool.true_and]
  cases a.testBit i <;> cases b.testBit i <;> rfl
def oI : Option Nat → Int32
  | none => -9
  | some n => nI n
theorem nI_ne9 {n : Nat} (h : n < 2147483648) : ¬ nI n = -9 := by
  intro q
  have h1 := nI_toInt h
  rw [q] at h1
  have h2 : (-9 : Int32).toInt = -9 := by decide
  omega
theorem oI_none {r : Option Nat} (hr : ∀ n, r = some n → n < 2147483648) : oI r = -9 ↔ r = none := by
  cases r with
  | none => simp [oI]
  | some n => simp [oI, nI_ne9 (hr n rfl)]
/-- going down to -1 -/
def dn (k : Nat) : Int32 := nI k + Int32.ofInt (-1)
theorem dn_s (k : Nat) : dn (k + 1) = nI k := nI_dec k
theorem dn_0 : dn 0 < 0 := by decide
theorem dn_neg {k : Nat} (hk : k < 2147483648) : dn k < 0 ↔ k = 0 := by
  cases k with
  | zero => simp [dn_0]
  | succ k => rw [dn_s]; simp [nI_pos (show k < 2 ^ 31 by omega)]
def fewD (r : Option Nat) (v : Nat) : Bool := match r with
  | none => true
  | some u => decide (bits v ≤ bits u)
def fewU (r : Option Nat) (v : Nat) : Bool := match r with
  | none => true
  | some u => decide (bits v < bits u)
def stD (Q : Nat → Bool) (r : Option Nat) (v : Nat) : Option Nat := if (fewD r v && Q v) = true then some v else r
def stU (Q : Nat → Bool) (r : Option Nat) (v : Nat) : Option Nat := if (fewU r v && Q v) = true then some v else r
def IsMin (Q : Nat → Bool) (lo hi : Nat) : Option Nat → Prop
  | none => ∀ v, lo ≤ v → v < hi → Q v = false
  | some u => lo ≤ u ∧ u < hi ∧ Q u = true ∧ ∀ v, lo ≤ v → v < hi → Q v = true → (bits u < bits v ∨ (bits u = bits v ∧ u ≤ v))
theorem IsMin.down {Q : Nat → Bool} {k hi : Nat} {r : Option Nat} (h : IsMin Q (k + 1) hi r) (hk : k < hi) : IsMin Q k hi (stD Q r k) := by
  unfold stD
  cases hq : Q k with
  | false =>
    simp only [Bool.and_false, Bool.false_eq_true, if_false]
    cases r with
    | none =>
      intro v h1 h2
      rcases Nat.lt_or_ge k v with h3 | h3
      · exact h v h3 h2
      · rw [show v = k by omega]; exact hq
    | some u =>
      obtain ⟨a, b, c, d⟩ := h
      refine ⟨by omega, b, c, fun v h1 h2 h3 => ?_⟩
      rcases Nat.lt_or_ge k v with h4 | h4
      · exact d v h4 h2 h3
      · rw [show v = k by omega, hq] at h3; cases h3
  | true =>
    simp only [Bool.and_true]
    cases r with
    | none =>
      simp only [fewD, if_true]
      refine ⟨Nat.le_refl _, hk, hq, fun v h1 h2 h3 => ?_⟩
      rcases Nat.lt_or_ge k v with h4 | h4
      · rw [h v h4 h2] at h3; cases h3
      · exact Or.inr ⟨by rw [show v = k by omega], by omega⟩
    | some u =>
      obtain ⟨a, b, c, d⟩ := h
      by_cases hf : bits k ≤ bits u
      · simp only [fewD, hf, decide_true, if_true]
        refine ⟨Nat.le_refl _, hk, hq, fun v h1 h2 h3 => ?_⟩
        rcases Nat.lt_or_ge k v with h4 | h4
        · have := d v h4 h2 h3
          omega
        · exact Or.inr ⟨by rw [show v = k by omega], by omega⟩
      · simp only [fewD, hf, decide_false, Bool.false_eq_true, if_false]
        refine ⟨by omega, b, c, fun v h1 h2 h3 => ?_⟩
        rcases Nat.lt_or_ge k v with h4 | h4
        · exact d v h4 h2 h3
        · exact Or.inl (by rw [show v = k by omega]; omega)
theorem IsMin.up {Q : Nat → Bool} {lo k : Nat} {r : Option Nat} (h : IsMin Q lo k r) (hk : lo ≤ k) : IsMin Q lo (k + 1) (stU Q r k) := by
  unfold stU
  cases hq : Q k with
  | false =>
    simp only [Bool.and_false, Bool.false_eq_true, if_false]
    cases r with
    | none =>
      intro v h1 h2
      rcases Nat.lt_or_ge v k with h3 | h3
      · exact h v h1 h3
      · rw [show v = k by omega]; exact hq
    | some u =>
      obtain ⟨a, b, c, d⟩ := h
      refine ⟨a, by omega, c, fun v h1 h2 h3 => ?_⟩
      rcases Nat.lt_or_ge v k with h4 | h4
      · exact d v h1 h4 h3
      · rw [show v = k by omega, hq] at h3; cases h3
  | true =>
    simp only [Bool.and_true]
    cases r with
    | none =>
      simp only [fewU, if_true]
      refine ⟨hk, by omega, hq, fun v h1 h2 h3 => ?_⟩
      rcases Nat.lt_or_ge v k with h4 | h4
      · rw [h v h1 h4] at h3; cases h3
      · exact Or.inr ⟨by rw [show v = k by omega], by omega⟩
    | some u =>
      obtain ⟨a, b, c, d⟩ := h
      by_cases hf : bits k < bits u
      · simp only [fewU, hf, decide_true, if_true]
        refine ⟨hk, by omega, hq, fun v h1 h2 h3 => ?_⟩
        rcases Nat.lt_or_ge v k with h4 | h4
        · have := d v h1 h4 h3
          omega
        · exact Or.inr ⟨by rw [show v = k by omega], by omega⟩
      · simp only [fewU, hf, decide_false, Bool.false_eq_true, if_false]
        refine ⟨a, by omega, c, fun v h1 h2 h3 => ?_⟩
        rcases Nat.lt_or_ge v k with h4 | h4
        · exact d v h1 h4 h3
        · rw [show v = k by omega]; omega
theorem IsMin.uniq {Q : Nat → Bool} {lo hi : Nat} {r q : Option Nat} (h : IsMin Q lo hi r) (g : IsMin Q lo hi q) : r = q := by
  cases r with
  | none =>
    cases q with
    | none => rfl
    | some u => have := h u g.1 g.2.1; rw [g.2.2.1] at this; cases this
  | some w =>
    cases q with
    | none => have := g w h.1 h.2.1; rw [h.2.2.1] at this; cases this
    | some u =>
      have a := h.2.2.2 u g.1 g.2.1 g.2.2.1
      have b := g.2.2.2 w h.1 h.2.1 h.2.2.1
      rw [show w = u by omega]
def minF (Q : Nat → Bool) : Nat → Option Nat
  | 0 => none
  | k + 1 => stU Q (minF Q k) k
theorem minF_is (Q : Nat → Bool) : ∀ n, IsMin Q 0 n (minF Q n)
  | 0 => fun v _ h => absurd h (Nat.not_lt_zero v)
  | n + 1 => (minF_is Q n).up (Nat.zero_le _)
theorem IsMin.lt {Q : Nat → Bool} {lo hi u : Nat} {r : Option Nat} (h : IsMin Q lo hi r) (e : r = some u) : u < hi := by subst e; exact h.2.1
theorem bitsF_le (v : Nat) : ∀ k, bitsF v k ≤ k
  | 0 => by show 0 ≤ _; omega
  | k + 1 => by
    have := bitsF_le v k
    show bitsF v k + _ ≤ _
    split <;> omega
theorem bitsF_hi {v n : Nat} (h : v < 2 ^ n) : ∀ k, n ≤ k → bitsF v k = bitsF v n
  | 0, hk => by rw [show n = 0 by omega]
  | k + 1, hk => by
    rcases Nat.lt_or_ge k n with h1 | h1
    · rw [show n = k + 1 by omega]
    · show bitsF v k + _ = _
      rw [bitsF_hi h k h1, if_neg (by rw [Nat.testBit_lt_two_pow (Nat.lt_of_lt_of_le h (Nat.pow_le_pow_right (by omega) h1))]; decide)]
      rfl
theorem bits_le {v n : Nat} (h : v < 2 ^ n) (hn : n ≤ 10) : bits v ≤ n := by
  unfold bits
  rw [bitsF_hi h 10 hn]
  exact bitsF_le v n
theorem bits_10 (v : Nat) : bits v ≤ 10 := bitsF_le v 10
theorem bitsF_sub {a b : Nat} (h : ∀ i, a.testBit i = true → b.testBit i = true) : ∀ k, bitsF a k ≤ bitsF b k
  | 0 => Nat.le_refl _
  | k + 1 => by
    have h1 := bitsF_sub h k
    have h2 := h k
    show bitsF a k + _ ≤ bitsF b k + _
    split <;> split <;> simp_all <;> omega
theorem bitsF_eq {a b : Nat} (h : ∀ i, a.testBit i = true → b.testBit i = true) : ∀ k, bitsF a k = bitsF b k → ∀ i, i < k → a.testBit i = b.testBit i
  | 0, _, i, hi => absurd hi (Nat.not_lt_zero i)
  | k + 1, e, i, hi => by
    have h1 := bitsF_sub h k
    have h2 := h k
    have e' : bitsF a k + (if a.testBit k = true then 1 else 0) = bitsF b k + (if b.testBit k = true then 1 else 0) := e
    have e3 : bitsF a k = bitsF b k ∧ a.testBit k = b.testBit k := by
      cases ha : a.testBit k <;> cases hb : b.testBit k <;> rw [ha, hb] at e' <;> simp_all
      omega
    rcases Nat.lt_or_ge i k with h4 | h4
    · exact bitsF_eq h k e3.1 i h4
    · rw [show i = k by omega]; exact e3.2
theorem bits_sub {a b : Nat} (hb : b < 1024) (h : ∀ i, a.testBit i = true → b.testBit i = true) : bits a ≤ bits b ∧ (bits a = bits b → a = b) := by
  refine ⟨bitsF_sub h 10, fun e => Nat.eq_of_testBit_eq fun i => ?_⟩
  rcases Nat.lt_or_ge i 10 with h1 | h1
  · exact bitsF_eq h 10 e i h1
  · have hb' : b.testBit i = false := Nat.testBit_lt_two_pow (Nat.lt_of_lt_of_le hb (Nat.pow_le_pow_right (n := 2) (by omega) h1))
    rw [hb']
    cases ha : a.testBit i with
    | false => rfl
    | true => rw [h i ha] at hb'; cases hb'
/-- the JDK's way of counting bits -/
def bc1 (v : Int32) : Int32 := v - ((v.toUInt32 >>> ((nI 1).toUInt32 &&& Int32.toUInt32 31)).toInt32 &&& 1431655765)
def bc2 (v : Int32) : Int32 := (v &&& 858993459) + ((v.toUInt32 >>> ((nI 2).toUInt32 &&& Int32.toUInt32 31)).toInt32 &&& 858993459)
def bc3 (v : Int32) : Int32 := (v + (v.toUInt32 >>> ((nI 4).toUInt32 &&& Int32.toUInt32 31)).toInt32) &&& 252645135
def bc4 (v : Int32) : Int32 := v + (v.toUInt32 >>> ((nI 8).toUInt32 &&& Int32.toUInt32 31)).toInt32
def bc5 (v : Int32) : Int32 := v + (v.toUInt32 >>> ((nI 16).toUInt32 &&& Int32.toUInt32 31)).toInt32
theorem bc_all : ∀ n, n < 1024 → bc5 (bc4 (bc3 (bc2 (bc1 (nI n))))) &&& nI 63 = nI (bits n) := by decide +kernel
theorem tb_1 {a j : Nat} : (a / 2 ^ j) &&& 1 = if a.testBit j = true then 1 else 0 := by
  rw [Nat.and_one_is_mod]
  cases h : a.testBit j with
  | true => rw [if_pos rfl]; rw [Nat.testBit_eq_decide_div_mod_eq, decide_eq_true_eq] at h; exact h
  | false => rw [if_neg (by decide)]; rw [Nat.testBit_eq_decide_div_mod_eq, decide_eq_false_iff_not] at h; omega
def cutQ (S : St) (a b f v : Nat) : Bool := decide (sumF S v S.str = f) && !comF S a b (andn (2 ^ S.str - 1) v)
def neeQ (S : St) (a b had v : Nat) : Bool := comF S a b (had ||| v)
def neeX (S : St) (a b had may v : Nat) : Bool := decide (andn v may = 0) && comF S a b (had ||| v)
def ansNeed (S : St) (a b w : Int32) : Int32 := if arY S a b = true then (if inI w (nI 1) (nI 10) = true then oI (minF (neeQ S (idx a) (idx b) (wideF S (idx w) S.str)) (2 ^ S.str)) else -1) else -1
theorem andn_all {n v : Nat} (h : v < 2 ^ n) : andn (2 ^ n - 1) v = 2 ^ n - 1 - v := by
  apply Nat.eq_of_testBit_eq
  intro i
  rw [andn_tb, Nat.testBit_two_pow_sub_one, show 2 ^ n - 1 - v = 2 ^ n - (v + 1) by omega, Nat.testBit_two_pow_sub_succ h]
/-- the component's search over what may be opened finds the least of all -/
theorem need_min {S : St} (hI : StOk S) {a b w : Nat} {r : Option Nat} (h : IsMin (neeX S a b (wideF S w S.str) (andn (2 ^ S.str - 1) (wideF S w S.str))) 0 (andn (2 ^ S.str - 1) (wideF S w S.str) + 1) r) : IsMin (neeQ S a b (wideF S w S.str)) 0 (2 ^ S.str) r := by
  have hw := wideF_lt (S := S) (w := w) S.str
  generalize hd : wideF S w S.str = had at h hw ⊢
  have hp := Nat.two_pow_pos S.str
  have h512 := p512 hI.str
  have hmay : ∀ i, (andn (2 ^ S.str - 1) had).testBit i = (decide (i < S.str) && !had.testBit i) := fun i => by rw [andn_tb, Nat.testBit_two_pow_sub_one]
  have hsub : ∀ v, v < 2 ^ S.str → neeQ S a b had v = true → ∃ u, u < andn (2 ^ S.str - 1) had + 1 ∧ neeX S a b had (andn (2 ^ S.str - 1) had) u = true ∧ bits u ≤ bits v ∧ (bits u = bits v → u = v) ∧ u ≤ v := by
    intro v hv hq
    have t1 : ∀ i, (andn v had).testBit i = true → v.testBit i = true := fun i q => by rw [andn_tb, Bool.and_eq_true] at q; exact q.1
    have vb : ∀ i, v.testBit i = true → i < S.str := fun i q => by
      rcases Nat.lt_or_ge i S.str with z | z
      · exact z
      · rw [Nat.testBit_lt_two_pow (Nat.lt_of_lt_of_le hv (Nat.pow_le_pow_right (by omega) z))] at q; cases q
    refine ⟨andn v had, ?_, ?_, (bits_sub (by omega) t1).1, (bits_sub (by omega) t1).2, andn_le v had⟩
    · refine Nat.lt_succ_of_le (tb_le (fun i q => ?_))
      have q1 := vb i (t1 i q)
      rw [andn_tb, Bool.and_eq_true] at q
      rw [hmay, decide_eq_true q1, q.2]; rfl
    · unfold neeX
      rw [Bool.and_eq_true, decide_eq_true_eq]
      constructor
      · apply Nat.eq_of_testBit_eq
        intro i
        rw [andn_tb, hmay, andn_tb, Nat.zero_testBit]
        cases q : v.testBit i with
        | false => rfl
        | true => rw [decide_eq_true (vb i q)]; cases had.testBit i <;> rfl
      · have e : had ||| andn v had = had ||| v := by
          apply Nat.eq_of_testBit_eq
          intro i
          rw [Nat.testBit_or, Nat.testBit_or, andn_tb]
          cases had.testBit i <;> cases v.testBit i <;> rfl
        unfold neeQ at hq
        rw [e]; exact hq
  have hm : andn (2 ^ S.str - 1) had ≤ 2 ^ S.str - 1 := andn_le _ _
  cases r with
  | none =>
    intro v _ hv
    cases hq : neeQ S a b had v with
    | false => rfl
    | true =>
      obtain ⟨u, u1, u2, -⟩ := hsub v hv hq
      rw [h u (Nat.zero_le _) u1] at u2; cases u2
  | some u =>
    obtain ⟨h1, h2, h3, h4⟩ := h
    refine ⟨Nat.zero_le _, by omega, ?_, fun v _ hv hq => ?_⟩
    · unfold neeX at h3; rw [Bool.and_eq_true] at h3; exact h3.2
    · obtain ⟨z, z1, z2, z3, z4, z5⟩ := hsub v hv hq
      have := h4 z (Nat.zero_le _) z1 z2
      omega
/-! measures -/
def wby (nt s f : Nat) : Nat := 1 + (if nt = 0 then max s f else s)
def asB (S : St) (s f : Nat) : Nat → Bool
  | 0 => true
  | k + 1 => asB S s f k && decide (wby (S.fn k) s f = S.fw k)
def asD (S : St) (d : Nat) : Bool := asB S (d / 10) (d % 10) S.facts
def cntP (P : Nat → Bool) : Nat → Nat
  | 0 => 0
  | k + 1 => cntP P k + (if P k = true then 1 else 0)
def fstP (P : Nat → Bool) : Nat → Option Nat
  | 0 => none
  | k + 1 => if P k = true then (if cntP P k = 0 then some k else fstP P k) else fstP P k
theorem cntP_le (P : Nat → Bool) : ∀ n, cntP P n ≤ n
  | 0 => Nat.le_refl _
  | n + 1 => by
    have := cntP_le P n
    show cntP P n + _ ≤ _
    split <;> omega
def ansDeeds (S : St) (w : Int32) : Int32 := if inI w (nI 0) (nI 1) = true then (if w = nI 0 then nI (cntP (asD S) 100) else oI (fstP (asD S) 100)) else -1
def alP (S : St) (nt w d : Nat) : Bool := asD S d && decide (wby nt (d / 10) (d % 10) = w)
def alF (S : St) (nt : Nat) : Nat → Nat
  | 0 => 0
  | k + 1 => max (alF S nt k) (cntP (alP S nt (k + 1)) 100)
theorem alF_le (S : St) (nt : Nat) : ∀ n, alF S nt n ≤ 100
  | 0 => by show 0 ≤ 100; omega
  | n + 1 => by
    have h1 := alF_le S nt n
    have h2 := cntP_le (alP S nt (n + 1)) 100
    show max _ _ ≤ _
    omega
def ansWhen (S : St) : Int32 := if alF S 0 10 = 0 then -9 else if alF S 1 10 < alF S 0 10 then nI 1 else nI 0
def mtF (S : St) (s : Nat) : Nat → Nat
  | 0 => 0
  | t + 1 => mtF S s t + (if meetF S s t = true then 1 else 0)
def ansCount (S : St) (w : Int32) : Int32 := if w = nI 0 then nI S.yds else if w = nI 1 then nI S.str else if w = nI 2 then nI S.ppl else if w = nI 3 then nI S.facts else if w = nI 4 then nI S.und else if w = nI 5 then nI S.typed else -1
theorem zb_and (a b : Bool) : zb a &&& zb b = zb (a && b) := by cases a <;> cases b <;> decide
/-! odds -/
def sumFr (g : Nat → Nat) : Nat → Nat → Nat
  | _, 0 => 0
  | k, n + 1 => g k + sumFr g (k + 1) n
def odG (S : St) (a b x v : Nat) : Nat := if comF S a b v = true then (10 - x) ^ bits v * x ^ (S.str - bits v) else 0
theorem sumFr_le {g h : Nat → Nat} : ∀ n k, (∀ v, k ≤ v → v < k + n → g v ≤ h v) → sumFr g k n ≤ sumFr h k n
  | 0, _, _ => Nat.le_refl _
  | n + 1, k, H => Nat.add_le_add (H k (Nat.le_refl _) (by omega)) (sumFr_le n (k + 1) fun v h1 h2 => H v (by omega) (by omega))
theorem sumFr_app (g : Nat → Nat) : ∀ m k n, sumFr g k (m + n) = sumFr g k m + sumFr g (k + m) n
  | 0, k, n => by rw [Nat.zero_add]; show _ = 0 + _; rw [Nat.zero_add]; rfl
  | m + 1, k, n => by
    rw [show m + 1 + n = (m + n) + 1 by omega]
    show g k + sumFr g (k + 1) (m + n) = g k + sumFr g (k + 1) m + _
    rw [sumFr_app g m (k + 1) n, show k + 1 + m = k + (m + 1) by omega]
    omega
theorem sumFr_sh {g h : Nat → Nat} (d c : Nat) : ∀ n k, (∀ v, k ≤ v → v < k + n → g (v + d) = c * h v) → sumFr g (k + d) n = c * sumFr h k n
  | 0, _, _ => by show 0 = c * 0; omega
  | n + 1, k, H => by
    show g (k + d) + sumFr g (k + d + 1) n = c * (h k + sumFr h (k + 1) n)
    rw [H k (Nat.le_refl _) (by omega), show k + d + 1 = k + 1 + d by omega, sumFr_sh d c n (k + 1) (fun v h1 h2 => H v (by omega) (by omega)), Nat.mul_add]
theorem bitsF_add {n v : Nat} (hv : v < 2 ^ n) : ∀ k, k ≤ n → bitsF (v + 2 ^ n) k = bitsF v k
  | 0, _ => rfl
  | k + 1, h => by
    show bitsF (v + 2 ^ n) k + _ = bitsF v k + _
    rw [bitsF_add hv k (by omega), Nat.add_comm v, Nat.testBit_two_pow_add_gt (by omega)]
theorem bits_add {n v : Nat} (hv : v < 2 ^ n) (hn : n < 10) : bits (v + 2 ^ n) = bits v + 1 := by
  have h1 : v + 2 ^ n < 2 ^ (n + 1) := by rw [Nat.pow_succ]; omega
  unfold bits
  rw [bitsF_hi h1 10 (by omega), bitsF_hi hv 10 (by omega)]
  show bitsF (v + 2 ^ n) n + _ = _
  rw [bitsF_add hv n (Nat.le_refl _), Nat.add_comm v, Nat.testBit_two_pow_add_eq, Nat.testBit_lt_two_pow hv]
  rfl
/-- all sets weigh ten to the streets -/
theorem od_all (x y : Nat) : ∀ n, n ≤ 10 → sumFr (fun v => y ^ bits v * x ^ (n - bits v)) 0 (2 ^ n) = (x + y) ^ n
  | 0, _ => by simp [sumFr, bits, bitsF]
  | n + 1, h => by
    have ih := od_all x y n (by omega)
    rw [Nat.pow_succ, Nat.mul_two, sumFr_app]
    have e1 : sumFr (fun v => y ^ bits v * x ^ (n + 1 - bits v)) (0 + 0) (2 ^ n) = x * sumFr (fun v => y ^ bits v * x ^ (n - bits v)) 0 (2 ^ n) := by
      refine sumFr_sh 0 x (2 ^ n) 0 fun v h1 h2 => ?_
      have hb := bits_le (show v < 2 ^ n by omega) (by omega)
      show y ^ bits v * x ^ (n + 1 - bits v) = x * (y ^ bits v * x ^ (n - bits v))
      rw [show n + 1 - bits v = (n - bits v) + 1 by omega, Nat.pow_succ]
      ac_rfl
    have e2 : sumFr (fun v => y ^ bits v * x ^ (n + 1 - bits v)) (0 + 2 ^ n) (2 ^ n) = y * sumFr (fun v => y ^ bits v * x ^ (n - bits v)) 0 (2 ^ n) := by
      refine sumFr_sh (2 ^ n) y (2 ^ n) 0 fun v h1 h2 => ?_
      show y ^ bits (v + 2 ^ n) * x ^ (n + 1 - bits (v + 2 ^ n)) = y * (y ^ bits v * x ^ (n - bits v))
      rw [bits_add (by omega) (by omega), show n + 1 - (bits v + 1) = n - bits v by omega, Nat.pow_succ]
      ac_rfl
    rw [Nat.add_zero] at e1
    rw [e1, e2, ih, Nat.pow_succ, Nat.mul_comm, Nat.mul_comm y, ← Nat.mul_add]
def odUp (S : St) (a b x : Nat) : Nat := sumFr (odG S a b x) 0 (2 ^ S.str)
theorem od_tail {S : St} (hI : StOk S) {a b x : Nat} (hx : x ≤ 10) {k : Nat} (hk : k ≤ 2 ^ S.str) : sumFr (odG S a b x) k (2 ^ S.str - k) ≤ 10 ^ S.str := by
  have h1 := od_all x (10 - x) S.str (by have := hI.str; omega)
  have h2 := sumFr_app (odG S a b x) k 0 (2 ^ S.str - k)
  rw [show k + (2 ^ S.str - k) = 2 ^ S.str by omega, Nat.zero_add] at h2
  have h3 : sumFr (odG S a b x) 0 (2 ^ S.str) ≤ sumFr (fun v => (10 - x) ^ bits v * x ^ (S.str - bits v)) 0 (2 ^ S.str) := by
    refine sumFr_le _ _ fun v _ _ => ?_
    unfold odG
    split
    · exact Nat.le_refl _
    · exact Nat.zero_le _
  rw [h1, show x + (10 - x) = 10 by omega] at h3
  omega
theorem p10 {n : Nat} (h : n ≤ 9) : 10 ^ n ≤ 1000000000 := Nat.pow_le_pow_right (n := 10) (by omega) h
def ansOdds (S : St) (a b x w : Int32) : Int32 := if arY S a b = true then (if inI x (nI 0) (nI 10) = true then (if inI w (nI 0) (nI 1) = true then (if w = nI 0 then nI (odUp S (idx a) (idx b) (idx x) / Nat.gcd (odUp S (idx a) (idx b) (idx x)) (10 ^ S.str)) else nI (10 ^ S.str / Nat.gcd (odUp S (idx a) (idx b) (idx x)) (10 ^ S.str))) else -1) else -1) else -1
