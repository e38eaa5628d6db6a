/-! what the calls do to the town -/
set_option maxRecDepth 100000
abbrev St.setNow (S : St) (a : Nat → Nat) : St := (S.1, S.2.1, a, S.2.2.2)
abbrev St.setUB (S : St) (u : Nat) (b : Nat → Nat → Nat) : St := (S.1, S.2.1, S.2.2.1, (u, b), S.2.2.2.2)
abbrev St.setIm (S : St) (k : Nat → Nat) (a : Nat → Nat → Nat) (u : Nat → Nat) (b : Nat → Nat → Nat → Nat) : St := (S.1, S.2.1, S.2.2.1, S.2.2.2.1, (k, a, u, b), S.2.2.2.2.2)
abbrev St.setTx (S : St) (n : Nat) (t : Nat → Nat) : St := (S.1, S.2.1, S.2.2.1, S.2.2.2.1, S.2.2.2.2.1, (n, t), S.2.2.2.2.2.2)
abbrev St.setFc (S : St) (n : Nat) (w f : Nat → Nat) : St := (S.1, S.2.1, S.2.2.1, S.2.2.2.1, S.2.2.2.2.1, S.2.2.2.2.2.1, (n, w, f), S.2.2.2.2.2.2.2)
abbrev St.setTr (S : St) (t : Int64) : St := (S.1, S.2.1, S.2.2.1, S.2.2.2.1, S.2.2.2.2.1, S.2.2.2.2.2.1, S.2.2.2.2.2.2.1, t)
def noteB (S : St) : Nat → Nat → Nat := if S.und = 10 then (fun k => if k = 9 then S.now else S.bef (k + 1)) else va_up S.bef S.und S.now
def noteU (S : St) : Nat := if S.und = 10 then 10 else S.und + 1
abbrev noteS (S : St) : St := S.setUB (noteU S) (noteB S)
theorem note_10 {S : St} (h : S.und = 10) : noteU S = 10 ∧ noteB S = (fun k => if k = 9 then S.now else S.bef (k + 1)) := by
  unfold noteU noteB; rw [if_pos h, if_pos h]; exact ⟨rfl, rfl⟩
theorem note_n {S : St} (h : S.und ≠ 10) : noteU S = S.und + 1 ∧ noteB S = va_up S.bef S.und S.now := by
  unfold noteU noteB; rw [if_neg h, if_neg h]; exact ⟨rfl, rfl⟩
theorem noteB_in {S : St} {P : (Nat → Nat) → Prop} (hn : P S.now) (hb : ∀ k, k < S.und → P (S.bef k)) (hu : S.und ≤ 10) : ∀ k, k < noteU S → P (noteB S k) := by
  intro k hk
  by_cases h : S.und = 10
  · obtain ⟨h1, h2⟩ := note_10 h
    rw [h1] at hk; rw [h2]
    dsimp only
    split
    · exact hn
    · exact hb _ (by omega)
  · obtain ⟨h1, h2⟩ := note_n h
    rw [h1] at hk; rw [h2]
    by_cases e : k = S.und
    · rw [e, va_up_self]; exact hn
    · rw [va_up_ne _ _ e]; exact hb k (by omega)
theorem noteU_le {S : St} (h : S.und ≤ 10) : noteU S ≤ 10 := by unfold noteU; split <;> omega
theorem StOk.note {S : St} (hI : StOk S) : StOk (noteS S) := ⟨hI.yds, hI.str, hI.ppl, hI.one, hI.oth, hI.dif, hI.wnt, hI.now, noteU_le hI.und, noteB_in (P := AgIn S) hI.now hI.bef hI.und, hI.ikept, hI.iage, hI.iund, hI.ibef, hI.typed, hI.text, hI.facts, hI.fw, hI.fn⟩
theorem StOk.setNow {S : St} (hI : StOk S) {a : Nat → Nat} (ha : AgIn S a) : StOk (S.setNow a) := ⟨hI.yds, hI.str, hI.ppl, hI.one, hI.oth, hI.dif, hI.wnt, ha, hI.und, hI.bef, hI.ikept, hI.iage, hI.iund, hI.ibef, hI.typed, hI.text, hI.facts, hI.fw, hI.fn⟩
/-- raise a place to a number -/
def rs (a : Nat → Nat) (i v : Nat) : Nat → Nat := va_up a i (max (a i) v)
theorem AgIn.up {S : St} (hI : StOk S) {a : Nat → Nat} (h : AgIn S a) {i v : Nat} (h0 : i = 0 → v ≤ 1) (h1 : 1 ≤ i → i < 28 → v ≤ 9) (h2 : 28 ≤ i → v < S.str) : AgIn S (va_up a i v) := by
  have hs := hI.str
  have key : ∀ k, (k = i → va_up a i v k = v) ∧ (k ≠ i → va_up a i v k = a k) := fun k => ⟨fun e => by rw [e, va_up_self], fun e => va_up_ne a v e⟩
  refine ⟨?_, fun s q => ?_, fun s q => ?_, fun s q => ?_, fun p q => ?_⟩
  · by_cases e : 0 = i
    · rw [(key 0).1 e]; exact h0 e.symm
    · rw [(key 0).2 e]; exact h.night
  · by_cases e : 1 + s = i
    · rw [(key _).1 e]; exact h1 (by omega) (by omega)
    · rw [(key _).2 e]; exact h.seen s q
  · by_cases e : 10 + s = i
    · rw [(key _).1 e]; exact h1 (by omega) (by omega)
    · rw [(key _).2 e]; exact h.hidden s q
  · by_cases e : 19 + s = i
    · rw [(key _).1 e]; exact h1 (by omega) (by omega)
    · rw [(key _).2 e]; exact h.faked s q
  · by_cases e : 28 + p = i
    · rw [(key _).1 e]; exact h2 (by omega)
    · rw [(key _).2 e]; exact h.home p q
theorem AgM.up {S : St} {a : Nat → Nat} {f : Nat → Int32} (h : AgM S a f) (i v : Nat) : AgM S (va_up a i v) (upd f i (nI v)) := by
  have key : ∀ k, f k = nI (a k) → upd f i (nI v) k = nI (va_up a i v k) := by
    intro k hk
    by_cases e : k = i
    · rw [e, va_up_self, pk_us]
    · rw [va_up_ne a v e, pk_un e]; exact hk
  exact ⟨key _ h.night, fun s q => key _ (h.seen s q), fun s q => key _ (h.hidden s q), fun s q => key _ (h.faked s q), fun p q => key _ (h.home p q)⟩
theorem upd_at {f : Nat → Int32} {i j v : Nat} {w : Int32} (h : f j = w) (h2 : j = i → w = nI v) : upd f i (nI v) j = w := by
  by_cases e : j = i
  · rw [e, pk_us]; exact (h2 e).symm
  · rw [pk_un e]; exact h
theorem AgOk.seen' {S : St} (hI : StOk S) {a : Nat → Nat} {A : AJ} (h : AgOk S a A) {j : Nat} (hj : j < S.str) (v : Nat) : AgOk S (va_up a (1 + j) v) (upd A.1 j (nI v), A.2) := by
  have hs := hI.str
  refine ⟨fun s q => ?_, fun s q => ?_, fun s q => ?_, fun p q => ?_, ?_⟩
  · by_cases e : s = j
    · show upd A.1 j (nI v) s = _; rw [e, va_up_self, pk_us]
    · show upd A.1 j (nI v) s = _; rw [va_up_ne _ _ (by omega), pk_un e]; exact h.seen s q
  · rw [va_up_ne _ _ (by omega)]; exact h.hidden s q
  · rw [va_up_ne _ _ (by omega)]; exact h.faked s q
  · rw [va_up_ne _ _ (by omega)]; exact h.home p q
  · rw [va_up_ne _ _ (by omega)]; exact h.night
theorem AgOk.hidden' {S : St} (hI : StOk S) {a : Nat → Nat} {A : AJ} (h : AgOk S a A) {j : Nat} (hj : j < S.str) (v : Nat) : AgOk S (va_up a (10 + j) v) (A.1, upd A.2.1 j (nI v), A.2.2) := by
  have hs := hI.str
  refine ⟨fun s q => ?_, fun s q => ?_, fun s q => ?_, fun p q => ?_, ?_⟩
  · rw [va_up_ne _ _ (by omega)]; exact h.seen s q
  · by_cases e : s = j
    · show upd A.2.1 j (nI v) s = _; rw [e, va_up_self, pk_us]
    · show upd A.2.1 j (nI v) s = _; rw [va_up_ne _ _ (by omega), pk_un e]; exact h.hidden s q
  · rw [va_up_ne _ _ (by omega)]; exact h.faked s q
  · rw [va_up_ne _ _ (by omega)]; exact h.home p q
  · rw [va_up_ne _ _ (by omega)]; exact h.night
theorem AgOk.faked' {S : St} (hI : StOk S) {a : Nat → Nat} {A : AJ} (h : AgOk S a A) {j : Nat} (hj : j < S.str) (v : Nat) : AgOk S (va_up a (19 + j) v) (A.1, A.2.1, upd A.2.2.1 j (nI v), A.2.2.2) := by
  have hs := hI.str
  refine ⟨fun s q => ?_, fun s q => ?_, fun s q => ?_, fun p q => ?_, ?_⟩
  · rw [va_up_ne _ _ (by omega)]; exact h.seen s q
  · rw [va_up_ne _ _ (by omega)]; exact h.hidden s q
  · by_cases e : s = j
    · show upd A.2.2.1 j (nI v) s = _; rw [e, va_up_self, pk_us]
    · show upd A.2.2.1 j (nI v) s = _; rw [va_up_ne _ _ (by omega), pk_un e]; exact h.faked s q
  · rw [va_up_ne _ _ (by omega)]; exact h.home p q
  · rw [va_up_ne _ _ (by omega)]; exact h.night
theorem AgOk.home' {S : St} (hI : StOk S) {a : Nat → Nat} {A : AJ} (h : AgOk S a A) {j : Nat} (hj : j < S.ppl) (v : Nat) : AgOk S (va_up a (28 + j) v) (A.1, A.2.1, A.2.2.1, upd A.2.2.2.1 j (nI v), A.2.2.2.2) := by
  have hs := hI.str
  refine ⟨fun s q => ?_, fun s q => ?_, fun s q => ?_, fun p q => ?_, ?_⟩
  · rw [va_up_ne _ _ (by omega)]; exact h.seen s q
  · rw [va_up_ne _ _ (by omega)]; exact h.hidden s q
  · rw [va_up_ne _ _ (by omega)]; exact h.faked s q
  · by_cases e : p = j
    · show upd A.2.2.2.1 j (nI v) p = _; rw [e, va_up_self, pk_us]
    · show upd A.2.2.2.1 j (nI v) p = _; rw [va_up_ne _ _ (by omega), pk_un e]; exact h.home p q
  · rw [va_up_ne _ _ (by omega)]; exact h.night
theorem AgOk.night' {S : St} {a : Nat → Nat} {A : AJ} (h : AgOk S a A) (v : Nat) : AgOk S (va_up a 0 v) (A.1, A.2.1, A.2.2.1, A.2.2.2.1, nI v) := by
  refine ⟨fun s q => ?_, fun s q => ?_, fun s q => ?_, fun p q => ?_, ?_⟩
  · rw [va_up_ne _ _ (by omega)]; exact h.seen s q
  · rw [va_up_ne _ _ (by omega)]; exact h.hidden s q
  · rw [va_up_ne _ _ (by omega)]; exact h.faked s q
  · rw [va_up_ne _ _ (by omega)]; exact h.home p q
  · rw [va_up_self]
theorem XOk.setNow {S : St} {J : XJ} (hO : XOk S J) {a : Nat → Nat} {A : AJ} (h : AgOk S a A) (hf : AFit A) : XOk (S.setNow a) (J.nw' A) := ⟨hO.yds, hO.str, hO.ppl, hO.one, hO.oth, hO.wnt, h, hO.und, hO.bef, hO.perm, hO.pinj, hO.und0, hO.kept0, hO.und1, hO.kept1, hO.age, hO.ibef, hf, hO.fits, hO.typed, hO.text, hO.facts, hO.fw, hO.fn, hO.trace⟩
theorem MOk.setNow {S : St} {J : MJ} (hO : MOk S J) {a : Nat → Nat} {f : Nat → Int32} (h : AgM S a f) : MOk (S.setNow a) (J.mNow' f) := ⟨hO.yds, hO.str, hO.ppl, hO.one, hO.oth, hO.wnt, h, hO.und, hO.bef, hO.kept, hO.iund, hO.age, hO.ibef, hO.typed, hO.text, hO.facts, hO.fw, hO.fn, hO.trace⟩
theorem wit_congr {S S' : St} (h1 : S'.one = S.one) (h2 : S'.oth = S.oth) (h3 : S'.now = S.now) {p : Nat} : ∀ {n : Nat}, witF S' p n = witF S p n
  | 0 => rfl
  | n + 1 => by
    show witF S' p n ||| (if _ then _ else _) = witF S p n ||| (if _ then _ else _)
    rw [wit_congr h1 h2 h3, h3]
    unfold meetF
    rw [h1, h2]
theorem AgM.to {S : St} (hI : StOk S) {a : Nat → Nat} {f g : Nat → Int32} (h : AgM S a f) (e : ∀ j, j < 34 → g j = f j) : AgM S a g := by
  have h1 := hI.str
  have h2 := hI.ppl
  exact ⟨(e 0 (by omega)).trans h.night, fun s q => (e _ (by omega)).trans (h.seen s q), fun s q => (e _ (by omega)).trans (h.hidden s q), fun s q => (e _ (by omega)).trans (h.faked s q), fun p q => (e _ (by omega)).trans (h.home p q)⟩
theorem rs_id {a : Nat → Nat} {i v : Nat} (h : v ≤ a i) : rs a i v = a := by
  unfold rs
  rw [Nat.max_eq_left h]
  funext k
  by_cases e : k = i
  · rw [e, va_up_self]
  · rw [va_up_ne _ _ e]
theorem rs_v {a : Nat → Nat} {i v : Nat} (h : a i ≤ v) : rs a i v = va_up a i v := by
  unfold rs
  rw [Nat.max_eq_right h]
theorem nI_fits : ∀ n, n < 128 → fits .byte (.int (nI n)) = true := by decide +kernel
theorem nI_nar8 : ∀ n, n < 128 → vp_nar .byte (nI n).toInt8.toInt32 = nI n := by decide +kernel
theorem nI_b8 : ∀ n, n < 128 → (nI n).toInt8.toInt32 = nI n := by decide +kernel
theorem nI_nar : ∀ n, n < 128 → vp_nar .byte (nI n) = nI n := by decide +kernel
theorem nI_narz : ∀ n, n < 2 → vp_nar .boolean (nI n) = nI n := by decide +kernel
/-! answers and next states -/
def okType (S : St) (v : Int32) : Bool := inI v (nI 0) (nI 255) && decide (S.typed ≠ 120)
def ansType (S : St) (v : Int32) : Int32 := if inI v (nI 0) (nI 255) = true then (if S.typed = 120 then -3 else nI (S.typed + 1)) else -1
def nxtType (S : St) (v : Int32) : St := if okType S v = true then S.setTx (S.typed + 1) (va_up S.text S.typed (idx v)) else S
abbrev nxtClear (S : St) : St := S.setTx 0 S.text
def doesA (S : St) (p v k : Nat) : Nat → Nat := if 1 < bits (witF S p S.ppl) then (if k = 0 then rs S.now (1 + S.now (28 + p)) v else rs S.now (19 + S.now (28 + p)) v) else (if k = 0 then rs S.now (10 + S.now (28 + p)) v else S.now)
def okDoes (S : St) (p v k : Int32) : Bool := ixI p S.ppl && inI v (nI 1) (nI 9) && inI k (nI 0) (nI 1)
def ansDoes (S : St) (p v k : Int32) : Int32 := if okDoes S p v k = true then nI (wid (doesA S (idx p) (idx v) (idx k)) (S.now (28 + idx p))) else -1
def nxtDoes (S : St) (p v k : Int32) : St := if okDoes S p v k = true then (noteS S).setNow (doesA S (idx p) (idx v) (idx k)) else S
def willsA (S : St) (s : Nat) : Nat → Nat := va_up (rs S.now (1 + s) (S.now (10 + s))) (10 + s) 0
def okWills (S : St) (v : Int32) : Bool := ixI v S.str && decide (S.now (10 + idx v) ≠ 0)
def ansWills (S : St) (v : Int32) : Int32 := if ixI v S.str = true then (if S.now (10 + idx v) = 0 then -2 else nI (S.now (10 + idx v))) else -1
def nxtWills (S : St) (v : Int32) : St := if okWills S v = true then (noteS S).setNow (willsA S (idx v)) else S
def okMoves (S : St) (p v : Int32) : Bool := ixI p S.ppl && ixI v S.str && decide (S.now (28 + idx p) ≠ idx v)
def ansMoves (S : St) (p v : Int32) : Int32 := if ixI p S.ppl = true then (if ixI v S.str = true then (if S.now (28 + idx p) = idx v then -2 else nI (S.now (28 + idx p))) else -1) else -1
def nxtMoves (S : St) (p v : Int32) : St := if okMoves S p v = true then (noteS S).setNow (va_up S.now (28 + idx p) (idx v)) else S
def okNight (S : St) (v : Int32) : Bool := inI v (nI 0) (nI 1) && decide (S.now 0 ≠ idx v)
def nxtNight (S : St) (v : Int32) : St := if okNight S v = true then (noteS S).setNow (va_up S.now 0 (idx v)) else S
def ansNight (S : St) (v : Int32) : Int32 := if inI v (nI 0) (nI 1) = true then (if S.now 0 = idx v then -2 else nI (sumF (nxtNight S v) (2 ^ S.str - 1) S.str)) else -1
def ansUndo (S : St) : Int32 := if S.und = 0 then -2 else nI (S.und - 1)
def nxtUndo (S : St) : St := if S.und = 0 then S else (S.setUB (S.und - 1) S.bef).setNow (S.bef (S.und - 1))
def okMeas (S : St) (w n : Int32) : Bool := inI w (nI 1) (nI 10) && inI n (nI 0) (nI 1) && decide (S.facts ≠ 4)
def ansMeas (S : St) (w n : Int32) : Int32 := if inI w (nI 1) (nI 10) = true then (if inI n (nI 0) (nI 1) = true then (if S.facts = 4 then -3 else nI (S.facts + 1)) else -1) else -1
def nxtMeas (S : St) (w n : Int32) : St := if okMeas S w n = true then S.setFc (S.facts + 1) (va_up S.fw S.facts (idx w)) (va_up S.fn S.facts (idx n)) else S
abbrev nxtForget (S : St) : St := S.setFc 0 S.fw S.fn
abbrev keepS (S : St) (i : Nat) : St := S.setIm (va_up S.ikept i 1) (va_up S.iage i S.now) (va_up S.iund i S.und) (va_up S.ibef i S.bef)
def ansKeep (S : St) (v : Int32) : Int32 := if inI v (nI 0) (nI 1) = true then nI (S.now 0) else -1
def nxtKeep (S : St) (v : Int32) : St := if inI v (nI 0) (nI 1) = true then keepS S (idx v) else S
abbrev backS (S : St) (i : Nat) : St := (S.setUB (S.iund i) (S.ibef i)).setNow (S.iage i)
def okBack (S : St) (v : Int32) : Bool := inI v (nI 0) (nI 1) && decide (S.ikept (idx v) ≠ 0)
def ansBack (S : St) (v : Int32) : Int32 := if inI v (nI 0) (nI 1) = true then (if S.ikept (idx v) = 0 then -2 else nI (S.iage (idx v) 0)) else -1
def nxtBack (S : St) (v : Int32) : St := if okBack S v = true then backS S (idx v) else S
theorem rs_in {S : St} (hI : StOk S) {a : Nat → Nat} (h : AgIn S a) {i v : Nat} (h1 : 1 ≤ i) (h2 : i < 28) (hv : v ≤ 9) (hi : a i ≤ 9) : AgIn S (rs a i v) := AgIn.up hI h (fun e => by omega) (fun _ _ => by omega) (fun e => by omega)
theorem doesA_in {S : St} (hI : StOk S) {p v k : Nat} (hp : p < S.ppl) (hv : v ≤ 9) : AgIn S (doesA S p v k) := by
  have h0 := hI.now
  have hs := hI.str
  have hh := h0.home p hp
  unfold doesA
  split
  · split
    · exact rs_in hI h0 (by omega) (by omega) hv (h0.seen _ hh)
    · exact rs_in hI h0 (by omega) (by omega) hv (h0.faked _ hh)
  · split
    · exact rs_in hI h0 (by omega) (by omega) hv (h0.hidden _ hh)
    · exact h0
theorem willsA_in {S : St} (hI : StOk S) {s : Nat} (hs : s < S.str) : AgIn S (willsA S s) := by
  have h0 := hI.now
  have h9 := hI.str
  exact AgIn.up hI (rs_in hI h0 (by omega) (by omega) (h0.hidden s hs) (h0.seen s hs)) (fun e => by omega) (fun _ _ => by omega) (fun e => by omega)
theorem StOk.type {S : St} (hI : StOk S) (v : Int32) : StOk (nxtType S v) := by
  unfold nxtType
  split
  · rename_i h
    simp only [okType, Bool.and_eq_true, decide_eq_true_eq] at h
    obtain ⟨j, h1, h2, rfl⟩ := inI_of (by omega) (by omega) h.1
    have h3 := hI.typed
    have h4 := h.2
    exact ⟨hI.yds, hI.str, hI.ppl, hI.one, hI.oth, hI.dif, hI.wnt, hI.now, hI.und, hI.bef, hI.ikept, hI.iage, hI.iund, hI.ibef, (show S.typed + 1 ≤ 120 by omega), (fun k hk => by
      by_cases e : k = S.typed
      · show va_up S.text S.typed _ k < 256; rw [e, va_up_self, idx_nI (by omega)]; omega
      · show va_up S.text S.typed _ k < 256; rw [va_up_ne _ _ e]; exact hI.text k (by have hk : k < S.typed + 1 := hk; omega)), hI.facts, hI.fw, hI.fn⟩
  · exact hI
theorem StOk.clear {S : St} (hI : StOk S) : StOk (nxtClear S) := ⟨hI.yds, hI.str, hI.ppl, hI.one, hI.oth, hI.dif, hI.wnt, hI.now, hI.und, hI.bef, hI.ikept, hI.iage, hI.iund, hI.ibef, Nat.zero_le _, (fun k hk => absurd hk (Nat.not_lt_zero k)), hI.facts, hI.fw, hI.fn⟩
theorem StOk.does {S : St} (hI : StOk S) (p v k : Int32) : StOk (nxtDoes S p v k) := by
  unfold nxtDoes
  split
  · rename_i h
    simp only [okDoes, Bool.and_eq_true] at h
    obtain ⟨j, hj, rfl⟩ := ixI_of h.1.1
    obtain ⟨w, w1, w2, rfl⟩ := inI_of (by omega) (by omega) h.1.2
    have h6 := hI.ppl
    rw [idx_nI (by omega), idx_nI (by omega)]
    exact hI.note.setNow (doesA_in hI hj w2)
  · exact hI
theorem StOk.wills {S : St} (hI : StOk S) (v : Int32) : StOk (nxtWills S v) := by
  unfold nxtWills
  split
  · rename_i h
    simp only [okWills, Bool.and_eq_true] at h
    obtain ⟨j, hj, rfl⟩ := ixI_of h.1
    have h6 := hI.str
    rw [idx_nI (by omega)]
    exact hI.note.setNow (willsA_in hI hj)
  · exact hI
theorem StOk.moves {S : St} (hI : StOk S) (p v : Int32) : StOk (nxtMoves S p v) := by
  unfold nxtMoves
  split
  · rename_i h
    simp only [okMoves, Bool.and_eq_true] at h
    obtain ⟨i, hi, rfl⟩ := ixI_of h.1.1
    obtain ⟨j, hj, rfl⟩ := ixI_of h.1.2
    have h6 := hI.str
    have h7 := hI.ppl
    rw [idx_nI (by omega), idx_nI (by omega)]
    exact hI.note.setNow (AgIn.up hI hI.now (fun e => by omega) (fun _ _ => by omega) (fun _ => hj))
  · exact hI
theorem StOk.night {S : St} (hI : StOk S) (v : Int32) : StOk (nxtNight S v) := by
  unfold nxtNight
  split
  · rename_i h
    simp only [okNight, Bool.and_eq_true] at h
    obtain ⟨j, h1, h2, rfl⟩ := inI_of (by omega) (by omega) h.1
    rw [idx_nI (by omega)]
    exact hI.note.setNow (AgIn.up hI hI.now (fun e => h2) (fun _ _ => by omega) (fun _ => by omega))
  · exact hI
theorem StOk.undo {S : St} (hI : StOk S) : StOk (nxtUndo S) := by
  unfold nxtUndo
  split
  · exact hI
  · rename_i h
    have h1 : StOk (S.setUB (S.und - 1) S.bef) := ⟨hI.yds, hI.str, hI.ppl, hI.one, hI.oth, hI.dif, hI.wnt, hI.now, (show S.und - 1 ≤ 10 by have := hI.und; omega), (fun k hk => hI.bef k (by have hk : k < S.und - 1 := hk; omega)), hI.ikept, hI.iage, hI.iund, hI.ibef, hI.typed, hI.text, hI.facts, hI.fw, hI.fn⟩
    exact h1.setNow (hI.bef _ (by omega))
theorem StOk.meas {S : St} (hI : StOk S) (w n : Int32) : StOk (nxtMeas S w n) := by
  unfold nxtMeas
  split
  · rename_i h
    simp only [okMeas, Bool.and_eq_true, decide_eq_true_eq] at h
    obtain ⟨j, h1, h2, rfl⟩ := inI_of (by omega) (by omega) h.1.1
    obtain ⟨i, h3, h4, rfl⟩ := inI_of (by omega) (by omega) h.1.2
    have h5 := hI.facts
    have h6 := h.2
    rw [idx_nI (by omega), idx_nI (by omega)]
    exact ⟨hI.yds, hI.str, hI.ppl, hI.one, hI.oth, hI.dif, hI.wnt, hI.now, hI.und, hI.bef, hI.ikept, hI.iage, hI.iund, hI.ibef, hI.typed, hI.text, (show S.facts + 1 ≤ 4 by omega), (fun k hk => by
      by_cases e : k = S.facts
      · show 1 ≤ va_up S.fw S.facts _ k ∧ va_up S.fw S.facts _ k ≤ 10; rw [e, va_up_self]; exact ⟨h1, h2⟩
      · show 1 ≤ va_up S.fw S.facts _ k ∧ va_up S.fw S.facts _ k ≤ 10; rw [va_up_ne _ _ e]; exact hI.fw k (by have hk : k < S.facts + 1 := hk; omega)), (fun k hk => by
      by_cases e : k = S.facts
      · show va_up S.fn S.facts _ k ≤ 1; rw [e, va_up_self]; exact h4
      · show va_up S.fn S.facts _ k ≤ 1; rw [va_up_ne _ _ e]; exact hI.fn k (by have hk : k < S.facts + 1 := hk; omega))⟩
  · exact hI
theorem StOk.forget {S : St} (hI : StOk S) : StOk (nxtForget S) := ⟨hI.yds, hI.str, hI.ppl, hI.one, hI.oth, hI.dif, hI.wnt, hI.now, hI.und, hI.bef, hI.ikept, hI.iage, hI.iund, hI.ibef, hI.typed, hI.text, Nat.zero_le _, (fun k hk => absurd hk (Nat.not_lt_zero k)), (fun k hk => absurd hk (Nat.not_lt_zero k))⟩
theorem StOk.keep {S : St} (hI : StOk S) (v : Int32) : StOk (nxtKeep S v) := by
  unfold nxtKeep
  split
  · generalize idx v = i
    have key : ∀ {β : Type} (f : Nat → β) (x : β) (P : β → Prop) (k : Nat), (k ≠ i → P (f k)) → P x → P (va_up f i x k) := by
      intro β f x P k h1 h2
      by_cases e : k = i
      · rw [e, va_up_self]; exact h2
      · rw [va_up_ne f x e]; exact h1 e
    have old : ∀ k, va_up S.ikept i 1 k = 1 → k ≠ i → S.ikept k = 1 := fun k h e => by rw [va_up_ne _ _ e] at h; exact h
    exact ⟨hI.yds, hI.str, hI.ppl, hI.one, hI.oth, hI.dif, hI.wnt, hI.now, hI.und, hI.bef, (fun k hk => key S.ikept 1 (fun z => z ≤ 1) k (fun _ => hI.ikept k hk) (Nat.le_refl _)), (fun k hk h1 => key S.iage S.now (AgIn S) k (fun e => hI.iage k hk (old k h1 e)) hI.now), (fun k hk h1 => key S.iund S.und (fun z => z ≤ 10) k (fun e => hI.iund k hk (old k h1 e)) hI.und), (fun k hk h1 q hq => by
      by_cases e : k = i
      · subst e; show AgIn S (va_up S.ibef k S.bef k q); rw [va_up_self]; have hq : q < va_up S.iund k S.und k := hq; rw [va_up_self] at hq; exact hI.bef q hq
      · show AgIn S (va_up S.ibef i S.bef k q); rw [va_up_ne _ _ e]; have hq : q < va_up S.iund i S.und k := hq; rw [va_up_ne _ _ e] at hq; exact hI.ibef k hk (old k h1 e) q hq), hI.typed, hI.text, hI.facts, hI.fw, hI.fn⟩
  · exact hI
theorem StOk.back {S : St} (hI : StOk S) (v : Int32) : StOk (nxtBack S v) := by
  unfold nxtBack
  split
  · rename_i h
    simp only [okBack, Bool.and_eq_true, decide_eq_true_eq] at h
    obtain ⟨i, h1, h2, rfl⟩ := inI_of (by omega) (by omega) h.1
    rw [idx_nI (by omega)] at h ⊢
    have h3 : S.ikept i = 1 := by have := hI.ikept i (by omega); have := h.2; omega
    have h4 : StOk (S.setUB (S.iund i) (S.ibef i)) := ⟨hI.yds, hI.str, hI.ppl, hI.one, hI.oth, hI.dif, hI.wnt, hI.now, hI.iund i (by omega) h3, hI.ibef i (by omega) h3, hI.ikept, hI.iage, hI.iund, hI.ibef, hI.typed, hI.text, hI.facts, hI.fw, hI.fn⟩
    exact h4.setNow (hI.iage i (by omega) h3)
  · exact hI
/-! kinds -/
theorem mt_congr {S S' : St} (h1 : S'.one = S.one) (h2 : S'.oth = S.oth) {s : Nat} : ∀ {n : Nat}, mtF S' s n = mtF S s n
  | 0 => rfl
  | n + 1 => by
    show mtF S' s n + (if _ then _ else _) = mtF S s n + (if _ then _ else _)
    rw [mt_congr h1 h2]
    unfold meetF
    rw [h1, h2]
theorem mt_setTr {S : St} {t : Int64} {s : Nat} : nI (mtF (S.setTr t) s S.str) = nI (mtF S s S.str) := congrArg nI (mt_congr (S := S) (S' := S.setTr t) rfl rfl)
def markV (S : St) (k s : Nat) : Int32 := if k = 0 then nI (wid S.now s) else if k = 1 then nI (wid S.now s + bits (livF S.now s S.ppl)) else if k = 2 then nI (wid S.now s) - nI (S.now (10 + s)) else if k = 3 then nI (2 * (wid S.now s + bits (livF S.now s S.ppl))) else if k = 4 then (nI (wid S.now s) - nI (S.now (10 + s))) + nI s else nI (wid S.now s + mtF S s S.str)
def trA (k : Nat) : Int64 := if k = 0 then 1 else if k = 1 then 11 else if k = 2 then 101 else if k = 3 then 1011 else if k = 4 then 10101 else 100001
def okMark (S : St) (k v : Int32) : Bool := inI k (nI 0) (nI 5) && ixI v S.str
def ansMark (S : St) (k v : Int32) : Int32 := if okMark S k v = true then markV S (idx k) (idx v) else -1000000
def nxtMark (S : St) (k v : Int32) : St := if okMark S k v = true then S.setTr (S.trace + trA (idx k)) else S
theorem StOk.setTr {S : St} (hI : StOk S) {t : Int64} : StOk (S.setTr t) := ⟨hI.yds, hI.str, hI.ppl, hI.one, hI.oth, hI.dif, hI.wnt, hI.now, hI.und, hI.bef, hI.ikept, hI.iage, hI.iund, hI.ibef, hI.typed, hI.text, hI.facts, hI.fw, hI.fn⟩
theorem StOk.mark {S : St} (hI : StOk S) (k v : Int32) : StOk (nxtMark S k v) := by
  unfold nxtMark
  split
  · exact hI.setTr
  · exact hI
theorem XOk.setTr {S : St} {J : XJ} (hO : XOk S J) {t : Int64} : XOk (S.setTr t) (J.kTrace' t) := ⟨hO.yds, hO.str, hO.ppl, hO.one, hO.oth, hO.wnt, hO.now, hO.und, hO.bef, hO.perm, hO.pinj, hO.und0, hO.kept0, hO.und1, hO.kept1, hO.age, hO.ibef, hO.fit, hO.fits, hO.typed, hO.text, hO.facts, hO.fw, hO.fn, rfl⟩
theorem MOk.setTr {S : St} {J : MJ} (hO : MOk S J) {t : Int64} : MOk (S.setTr t) (J.mTrace' t) := ⟨hO.yds, hO.str, hO.ppl, hO.one, hO.oth, hO.wnt, hO.now, hO.und, hO.bef, hO.kept, hO.iund, hO.age, hO.ibef, hO.typed, hO.text, hO.facts, hO.fw, hO.fn, rfl⟩
theorem lw_SU {own : String} {idx : Nat} {y : MethodName} {b : ByteArray} {L : Nat} {r : Option FieldType} (h1 : Cond.methodLink own idx y ∈ lw_all) (h2 : Cond.sameMethod y.cls y.cls y.name y.desc ∈ lw_all) (h3 : Cond.superclass own y.cls ∈ lw_all) (h4 : Cond.instanceMethod y ∈ lw_all) (h5 : Cond.initialized y.cls ∈ lw_all) (h6 : Cond.code y b L r ∈ lw_all) : GoodIn lw_all (va_wsSU own idx y (ws_ y b L r)) := by
  refine lw_app ?_ (lw_meth h6)
  intro w hw
  simp only [List.mem_cons, List.not_mem_nil, or_false] at hw
  rcases hw with e | e | e | e | e
  · rw [e]; exact h1
  · rw [e]; exact h2
  · rw [e]; exact h3
  · rw [e]; exact h4
  · rw [e]; exact h5
theorem lw_O {own : String} {idx : Nat} {C owner : String} {x y : MethodName} {b : ByteArray} {L : Nat} {r : Option FieldType} (h1 : Cond.methodLink own idx x ∈ lw_all) (h2 : Cond.sameMethod x.cls owner x.name x.desc ∈ lw_all) (h3 : Cond.instanceMethod ⟨owner, x.name, x.desc⟩ ∈ lw_all) (h4 : Cond.selects C x y ∈ lw_all) (h5 : Cond.instanceMethod y ∈ lw_all) (h6 : Cond.initialized y.cls ∈ lw_all) (h7 : Cond.code y b L r ∈ lw_all) : GoodIn lw_all (va_wsO own idx C owner x y (ws_ y b L r)) := by
  refine lw_app ?_ (lw_meth h7)
  intro w hw
  simp only [List.mem_cons, List.not_mem_nil, or_false] at hw
  rcases hw with e | e | e | e | e | e
  · rw [e]; exact h1
  · rw [e]; exact h2
  · rw [e]; exact h3
  · rw [e]; exact h4
  · rw [e]; exact h5
  · rw [e]; exact h6
