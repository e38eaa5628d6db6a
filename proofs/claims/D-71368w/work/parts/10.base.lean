/-! OWN ROWS: numbers on the stack as naturals, answers as truth values, starts, loops, cuts -/
set_option maxRecDepth 100000
def zb (b : Bool) : Int32 := if b then 1 else 0
theorem zb_t : zb true = 1 := rfl
theorem zb_f : zb false = 0 := rfl
theorem zb_0 {b : Bool} : zb b = 0 ↔ b = false := by cases b <;> decide
theorem zb_1 {b : Bool} : zb b = 1 ↔ b = true := by cases b <;> decide
theorem zb_nar (b : Bool) : narrow .boolean (.int (zb b)) = .int (zb b) := by cases b <;> rfl
theorem zb_n0 : zb false = nI 0 := by decide
theorem zb_n1 : zb true = nI 1 := by decide
theorem nI_inc (a : Nat) : nI a + Int32.ofInt 1 = nI (a + 1) := nI_1 a
theorem nI_dec (a : Nat) : nI (a + 1) + Int32.ofInt (-1) = nI a := pk_m1 a
theorem nI_dec' {a : Nat} (h : 0 < a) : nI a + Int32.ofInt (-1) = nI (a - 1) := by
  obtain ⟨b, rfl⟩ : ∃ b, a = b + 1 := ⟨a - 1, by omega⟩
  exact pk_m1 b
theorem nI_or (a b : Nat) : nI a ||| nI b = nI (a ||| b) := by
  apply Int32.toBitVec_inj.mp
  show (BitVec.ofNat 32 a ||| BitVec.ofNat 32 b) = BitVec.ofNat 32 (a ||| b)
  apply BitVec.eq_of_toNat_eq
  simp [BitVec.toNat_ofNat, Nat.or_mod_two_pow]
theorem nI_and (a b : Nat) : nI a &&& nI b = nI (a &&& b) := by
  apply Int32.toBitVec_inj.mp
  show (BitVec.ofNat 32 a &&& BitVec.ofNat 32 b) = BitVec.ofNat 32 (a &&& b)
  apply BitVec.eq_of_toNat_eq
  simp [BitVec.toNat_ofNat, Nat.and_mod_two_pow]
theorem nI_sh : ∀ k, k < 32 → ((nI k &&& 31).toBitVec.smod 32).toNat = k := by decide +kernel
theorem nI_shl {a k : Nat} (hk : k < 32) (h : a * 2 ^ k < 2 ^ 32) : nI a <<< (nI k &&& 31) = nI (a * 2 ^ k) := pk_shlN _ k (nI_sh k hk) h
theorem nI_shr {a k : Nat} (hk : k < 32) (h : a < 2 ^ 31) : nI a >>> (nI k &&& 31) = nI (a / 2 ^ k) := pk_shrN h _ k (nI_sh k hk)
theorem nI_inj {a b : Nat} (ha : a < 2147483648) (hb : b < 2147483648) (h : nI a = nI b) : a = b := (nI_eq ha hb).mp h
theorem sv {x y : Int32} (h : x = y) : some (Value.int x) = some (Value.int y) := by rw [h]
/-- the places 0 .. n-1, asked of any int -/
def ixI (v : Int32) (n : Nat) : Bool := decide (0 ≤ v.toInt ∧ v.toInt < (n : Int))
theorem ixI_of {v : Int32} {n : Nat} (h : ixI v n = true) : ∃ j : Nat, j < n ∧ v = nI j := by
  have h := of_decide_eq_true h
  refine ⟨v.toInt.toNat, by omega, ?_⟩
  apply Int32.toInt_inj.mp
  have := Int32.toInt_lt v
  rw [nI_toInt (by omega)]
  omega
theorem ixI_nI {j n : Nat} (hj : j < 2147483648) : ixI (nI j) n = decide (j < n) := by
  unfold ixI
  rw [nI_toInt (by omega)]
  by_cases h : j < n
  · rw [decide_eq_true (by omega), decide_eq_true h]
  · rw [decide_eq_false (by omega), decide_eq_false h]
/-- between two ints, as the code asks it -/
def inI (v a b : Int32) : Bool := decide (a ≤ v) && decide (v ≤ b)
theorem inI_of {v : Int32} {a b : Nat} (ha : a < 2147483648) (hb : b < 2147483648) (h : inI v (nI a) (nI b) = true) : ∃ j : Nat, a ≤ j ∧ j ≤ b ∧ v = nI j := by
  simp only [inI, Bool.and_eq_true, decide_eq_true_eq] at h
  obtain ⟨h1, h2⟩ := h
  rw [Int32.le_iff_toInt_le] at h1 h2
  rw [nI_toInt (by omega)] at h2
  rw [nI_toInt (by omega)] at h1
  refine ⟨v.toInt.toNat, by omega, by omega, ?_⟩
  apply Int32.toInt_inj.mp
  rw [nI_toInt (by omega)]
  omega
theorem inI_nI {j a b : Nat} (hj : j < 2147483648) (ha : a < 2147483648) (hb : b < 2147483648) : inI (nI j) (nI a) (nI b) = (decide (a ≤ j) && decide (j ≤ b)) := by
  simp only [inI, nI_leI ha hj, nI_leI hj hb]
theorem inI_ix {v : Int32} {n : Nat} (hn : n < 2147483648) : inI v (nI 0) (nI n - nI 1) = ixI v n := by
  have h0 : (nI n - nI 1).toInt = (n : Int) - 1 := by
    have h1 : nI n - nI 1 = Int32.ofInt ((n : Int) - 1) := by
      apply Int32.toInt_inj.mp
      rw [Int32.toInt_sub, nI_toInt (by omega), nI_toInt (by omega), Int32.toInt_ofInt]
      rfl
    rw [h1, Int32.toInt_ofInt_of_le (by omega) (by omega)]
  have e1 : (nI 0 ≤ v) ↔ 0 ≤ v.toInt := by rw [Int32.le_iff_toInt_le, nI_toInt (by omega)]; rfl
  have e2 : (v ≤ nI n - nI 1) ↔ v.toInt < (n : Int) := by rw [Int32.le_iff_toInt_le, h0]; omega
  simp only [inI, ixI, e1, e2, Bool.decide_and]
/-- words that ride beside lw_all: links of nest mates, castable, declares -/
def okw (w : Cond) : Bool := match w with
  | .fieldLinkNest .. => true
  | .methodLinkNest .. => true
  | .castable .. => true
  | .declares .. => true
  | _ => false
def NW (U : State) : Prop := ∀ w ∈ lw_tbl, okw w = true → va_Nw w U
theorem NW.warm {s U : State} (hW : s.WarmedH U.vm) (h : NW s) : NW U := by
  intro w hw ho
  have h1 := h w hw ho
  cases w <;> first | exact va_Nw.warmF hW h1 | exact va_Nw.warmM hW h1 | exact va_Nw.warmC hW h1 | exact va_Nw.warmD hW h1 | (simp [okw] at ho)
theorem NW.same {s U : State} (hv : s.vm = U.vm) (h : NW s) : NW U := by
  intro w hw ho
  have h1 := h w hw ho
  cases w <;> first | exact va_Nw.same rfl hv h1 | (simp [okw] at ho)
theorem NW.of {s : State} {A : Array Value} (h : ∀ w ∈ lw_tbl, w.before A s = true) : NW s := by
  intro w hw ho
  have h1 := h w hw
  cases w <;> first | exact va_Nw.of rfl h1 | (simp [okw] at ho)
/-- a method's start, once for all -/
theorem x_start {l : Launch} {y : MethodName} {cc : ByteArray} {maxL mc ms : Nat} {ret : Option FieldType} {rm : Room} {av : List Value} {B : State → Prop} {Qc : Array Value → State → Outcome → State → Prop} {free : Addr → Prop} (hy : plainName y.cls = true) (hlen : (lg_sl av).length ≤ maxL)
    (body : ∀ (p : Program) (e : Env) (s : State) (m : MethodId) (below : List Frame) (meth : Method) (cd : Code) (ls : Array Slot), p.tables.exec = Jvm.exec → cd.code = cc → meth.sig.returnType = ret → (∀ w ∈ lw_all, w.before av.toArray s = true) → cd.maxLocals = maxL → s.vm.findClass y.cls = some m.cls → meth.locks = false → meth.name = y.name → B s → lv_has ls maxL (lv_args 0 av) →
      W p l e (headSpec (ws_ y cc maxL ret) rm).room s m av.toArray below meth cd s.heap [] 0 0 (MQ below Qc av.toArray s mc ms free) (F0 m 0 ls [])) : Met l y (ws_ y cc maxL ret) rm (va_Pc av B) Qc mc ms free := by
  refine Met.ofW (cc := cc) (maxL := maxL) (ret := ret) hy rfl ?_
  intro p e s m args below meth c s₁ B hml hv
  obtain ⟨rfl, hB⟩ := hv
  have hts := atoms_spec (ws := ws_ y cc maxL ret) B.pre
  have hts : ∀ w ∈ lw_all, w.before _ s = true := fun w h => hts w (List.mem_cons_of_mem _ h)
  have hl := lv_entry av (n := maxL) hlen
  rw [lg_entry_eq]
  exact body p e s m below meth c _ B.exec B.bytes B.returns hts hml (findClass_of_methodNamed B.named) B.notSynchronized (name_of_methodNamed B.named B.method).1 hB hl
section BR
variable {p : Program} {l : Launch} {e : Env} {R : Room} {s : State} {m : MethodId} {args : Array Value} {below : List Frame} {meth : Method} {c : Code} {H : Heap} {locs : List Loc} {cells slots : Nat} {Q : State → Prop}
variable {cc : ByteArray} {pc : Nat} {ls : Array Slot} {rest : List Value}
theorem n_top {x y : Int32} (h : x = y) (k : W p l e R s m args below meth c H locs cells slots Q (F0 m pc ls (.int y :: rest))) : W p l e R s m args below meth c H locs cells slots Q (F0 m pc ls (.int x :: rest)) := by
  rw [h]; exact k
theorem n_top2 {x y : Int32} {v : Value} (h : x = y) (k : W p l e R s m args below meth c H locs cells slots Q (F0 m pc ls (v :: .int y :: rest))) : W p l e R s m args below meth c H locs cells slots Q (F0 m pc ls (v :: .int x :: rest)) := by
  rw [h]; exact k
theorem n_topv {x y : Value} (h : x = y) (k : W p l e R s m args below meth c H locs cells slots Q (F0 m pc ls (y :: rest))) : W p l e R s m args below meth c H locs cells slots Q (F0 m pc ls (x :: rest)) := by
  rw [h]; exact k
theorem n_add (hexec : p.tables.exec = Jvm.exec) (hb : c.code = cc) {a b : Nat} (hdg : decode cc pc = .ok (.iadd, 1)) (k : W p l e R s m args below meth c H locs cells slots Q (F0 m (pc + 1) ls (.int (nI (a + b)) :: rest))) : W p l e R s m args below meth c H locs cells slots Q (F0 m pc ls (.int (nI b) :: .int (nI a) :: rest)) :=
  lv_iadd hexec hb hdg (by rw [nI_add]; exact k)
theorem n_sub (hexec : p.tables.exec = Jvm.exec) (hb : c.code = cc) {a b : Nat} (hdg : decode cc pc = .ok (.isub, 1)) (h : b ≤ a) (k : W p l e R s m args below meth c H locs cells slots Q (F0 m (pc + 1) ls (.int (nI (a - b)) :: rest))) : W p l e R s m args below meth c H locs cells slots Q (F0 m pc ls (.int (nI b) :: .int (nI a) :: rest)) :=
  lv_isub hexec hb hdg (by rw [pk_sub h]; exact k)
theorem n_mul (hexec : p.tables.exec = Jvm.exec) (hb : c.code = cc) {a b : Nat} (hdg : decode cc pc = .ok (.imul, 1)) (k : W p l e R s m args below meth c H locs cells slots Q (F0 m (pc + 1) ls (.int (nI (a * b)) :: rest))) : W p l e R s m args below meth c H locs cells slots Q (F0 m pc ls (.int (nI b) :: .int (nI a) :: rest)) :=
  lv_imul hexec hb hdg (by rw [pk_mul]; exact k)
theorem n_or (hexec : p.tables.exec = Jvm.exec) (hb : c.code = cc) {a b : Nat} (hdg : decode cc pc = .ok (.ior, 1)) (k : W p l e R s m args below meth c H locs cells slots Q (F0 m (pc + 1) ls (.int (nI (a ||| b)) :: rest))) : W p l e R s m args below meth c H locs cells slots Q (F0 m pc ls (.int (nI b) :: .int (nI a) :: rest)) :=
  lv_ior hexec hb hdg (by rw [nI_or]; exact k)
theorem n_and (hexec : p.tables.exec = Jvm.exec) (hb : c.code = cc) {a b : Nat} (hdg : decode cc pc = .ok (.iand, 1)) (k : W p l e R s m args below meth c H locs cells slots Q (F0 m (pc + 1) ls (.int (nI (a &&& b)) :: rest))) : W p l e R s m args below meth c H locs cells slots Q (F0 m pc ls (.int (nI b) :: .int (nI a) :: rest)) :=
  lv_iand hexec hb hdg (by rw [nI_and]; exact k)
theorem n_shl1 (hexec : p.tables.exec = Jvm.exec) (hb : c.code = cc) {k : Nat} (hdg : decode cc pc = .ok (.ishl, 1)) (hk : k < 31) (kk : W p l e R s m args below meth c H locs cells slots Q (F0 m (pc + 1) ls (.int (nI (2 ^ k)) :: rest))) : W p l e R s m args below meth c H locs cells slots Q (F0 m pc ls (.int (nI k) :: .int (nI 1) :: rest)) :=
  lv_ishl hexec hb hdg (by
    have h := nI_shl (a := 1) (k := k) (by omega) (by rw [Nat.one_mul]; exact Nat.pow_lt_pow_right (by omega) (by omega))
    rw [Nat.one_mul] at h
    rw [h]; exact kk)
theorem n_shr (hexec : p.tables.exec = Jvm.exec) (hb : c.code = cc) {a k : Nat} (hdg : decode cc pc = .ok (.ishr, 1)) (hk : k < 32) (ha : a < 2147483648) (kk : W p l e R s m args below meth c H locs cells slots Q (F0 m (pc + 1) ls (.int (nI (a / 2 ^ k)) :: rest))) : W p l e R s m args below meth c H locs cells slots Q (F0 m pc ls (.int (nI k) :: .int (nI a) :: rest)) :=
  lv_ishr hexec hb hdg (by rw [nI_shr hk ha]; exact kk)
theorem n_div (hexec : p.tables.exec = Jvm.exec) (hb : c.code = cc) {a b : Nat} (hdg : decode cc pc = .ok (.idiv, 1)) (ha : a < 2147483648) (h0 : 0 < b) (h2 : b < 2147483648) (k : W p l e R s m args below meth c H locs cells slots Q (F0 m (pc + 1) ls (.int (nI (a / b)) :: rest))) : W p l e R s m args below meth c H locs cells slots Q (F0 m pc ls (.int (nI b) :: .int (nI a) :: rest)) :=
  lv_idiv hexec hb hdg (nI_ne0 h0 h2) (by rw [pk_div ha h0 h2]; exact k)
theorem n_rem (hexec : p.tables.exec = Jvm.exec) (hb : c.code = cc) {a b : Nat} (hdg : decode cc pc = .ok (.irem, 1)) (ha : a < 2147483648) (h0 : 0 < b) (h2 : b < 2147483648) (k : W p l e R s m args below meth c H locs cells slots Q (F0 m (pc + 1) ls (.int (nI (a % b)) :: rest))) : W p l e R s m args below meth c H locs cells slots Q (F0 m pc ls (.int (nI b) :: .int (nI a) :: rest)) :=
  lv_irem hexec hb hdg (nI_ne0 h0 h2) (by rw [pk_rem ha h0 h2]; exact k)
theorem n_icmp_eq (hexec : p.tables.exec = Jvm.exec) (hb : c.code = cc) {a b : Nat} {off : Int} {tgt : Nat} (hdg : decode cc pc = .ok (.if_icmp .eq off, 3)) (ht : (pc : Int) + off = (tgt : Int)) (ha : a < 2147483648) (hc : b < 2147483648) (kt : a = b → W p l e R s m args below meth c H locs cells slots Q (F0 m tgt ls rest)) (kf : a ≠ b → W p l e R s m args below meth c H locs cells slots Q (F0 m (pc + 3) ls rest)) : W p l e R s m args below meth c H locs cells slots Q (F0 m pc ls (.int (nI b) :: .int (nI a) :: rest)) :=
  lv_icmp_eq hexec hb hdg ht (fun q => kt ((nI_eq ha hc).mp q)) (fun q => kf (fun z => q ((nI_eq ha hc).mpr z)))
theorem n_icmp_ne (hexec : p.tables.exec = Jvm.exec) (hb : c.code = cc) {a b : Nat} {off : Int} {tgt : Nat} (hdg : decode cc pc = .ok (.if_icmp .ne off, 3)) (ht : (pc : Int) + off = (tgt : Int)) (ha : a < 2147483648) (hc : b < 2147483648) (kt : a ≠ b → W p l e R s m args below meth c H locs cells slots Q (F0 m tgt ls rest)) (kf : a = b → W p l e R s m args below meth c H locs cells slots Q (F0 m (pc + 3) ls rest)) : W p l e R s m args below meth c H locs cells slots Q (F0 m pc ls (.int (nI b) :: .int (nI a) :: rest)) :=
  lv_icmp_ne hexec hb hdg ht (fun q => kt (fun z => q ((nI_eq ha hc).mpr z))) (fun q => kf ((nI_eq ha hc).mp q))
theorem n_icmp_lt (hexec : p.tables.exec = Jvm.exec) (hb : c.code = cc) {a b : Nat} {off : Int} {tgt : Nat} (hdg : decode cc pc = .ok (.if_icmp .lt off, 3)) (ht : (pc : Int) + off = (tgt : Int)) (ha : a < 2147483648) (hc : b < 2147483648) (kt : a < b → W p l e R s m args below meth c H locs cells slots Q (F0 m tgt ls rest)) (kf : b ≤ a → W p l e R s m args below meth c H locs cells slots Q (F0 m (pc + 3) ls rest)) : W p l e R s m args below meth c H locs cells slots Q (F0 m pc ls (.int (nI b) :: .int (nI a) :: rest)) :=
  lv_icmp_lt hexec hb hdg ht (fun q => kt ((nI_ltI ha hc).mp q)) (fun q => kf (by have z := mt (nI_ltI ha hc).mpr q; omega))
theorem n_icmp_ge (hexec : p.tables.exec = Jvm.exec) (hb : c.code = cc) {a b : Nat} {off : Int} {tgt : Nat} (hdg : decode cc pc = .ok (.if_icmp .ge off, 3)) (ht : (pc : Int) + off = (tgt : Int)) (ha : a < 2147483648) (hc : b < 2147483648) (kt : b ≤ a → W p l e R s m args below meth c H locs cells slots Q (F0 m tgt ls rest)) (kf : a < b → W p l e R s m args below meth c H locs cells slots Q (F0 m (pc + 3) ls rest)) : W p l e R s m args below meth c H locs cells slots Q (F0 m pc ls (.int (nI b) :: .int (nI a) :: rest)) :=
  lv_icmp_ge hexec hb hdg ht (fun q => kt ((nI_leI hc ha).mp q)) (fun q => kf (by have z := mt (nI_leI hc ha).mpr q; omega))
theorem n_icmp_gt (hexec : p.tables.exec = Jvm.exec) (hb : c.code = cc) {a b : Nat} {off : Int} {tgt : Nat} (hdg : decode cc pc = .ok (.if_icmp .gt off, 3)) (ht : (pc : Int) + off = (tgt : Int)) (ha : a < 2147483648) (hc : b < 2147483648) (kt : b < a → W p l e R s m args below meth c H locs cells slots Q (F0 m tgt ls rest)) (kf : a ≤ b → W p l e R s m args below meth c H locs cells slots Q (F0 m (pc + 3) ls rest)) : W p l e R s m args below meth c H locs cells slots Q (F0 m pc ls (.int (nI b) :: .int (nI a) :: rest)) :=
  lv_icmp_gt hexec hb hdg ht (fun q => kt ((nI_ltI hc ha).mp q)) (fun q => kf (by have z := mt (nI_ltI hc ha).mpr q; omega))
theorem n_icmp_le (hexec : p.tables.exec = Jvm.exec) (hb : c.code = cc) {a b : Nat} {off : Int} {tgt : Nat} (hdg : decode cc pc = .ok (.if_icmp .le off, 3)) (ht : (pc : Int) + off = (tgt : Int)) (ha : a < 2147483648) (hc : b < 2147483648) (kt : a ≤ b → W p l e R s m args below meth c H locs cells slots Q (F0 m tgt ls rest)) (kf : b < a → W p l e R s m args below meth c H locs cells slots Q (F0 m (pc + 3) ls rest)) : W p l e R s m args below meth c H locs cells slots Q (F0 m pc ls (.int (nI b) :: .int (nI a) :: rest)) :=
  lv_icmp_le hexec hb hdg ht (fun q => kt ((nI_leI ha hc).mp q)) (fun q => kf (by have z := mt (nI_leI ha hc).mpr q; omega))
theorem n_if_eq (hexec : p.tables.exec = Jvm.exec) (hb : c.code = cc) {a : Nat} {off : Int} {tgt : Nat} (hdg : decode cc pc = .ok (.ifCond .eq off, 3)) (ht : (pc : Int) + off = (tgt : Int)) (ha : a < 2147483648) (kt : a = 0 → W p l e R s m args below meth c H locs cells slots Q (F0 m tgt ls rest)) (kf : a ≠ 0 → W p l e R s m args below meth c H locs cells slots Q (F0 m (pc + 3) ls rest)) : W p l e R s m args below meth c H locs cells slots Q (F0 m pc ls (.int (nI a) :: rest)) := by
  have e0 := nI_eq ha (show 0 < 2147483648 by omega)
  rw [nI_0] at e0
  exact lv_if_eq hexec hb hdg ht (fun q => kt (e0.mp q)) (fun q => kf (fun z => q (e0.mpr z)))
theorem n_if_ne (hexec : p.tables.exec = Jvm.exec) (hb : c.code = cc) {a : Nat} {off : Int} {tgt : Nat} (hdg : decode cc pc = .ok (.ifCond .ne off, 3)) (ht : (pc : Int) + off = (tgt : Int)) (ha : a < 2147483648) (kt : a ≠ 0 → W p l e R s m args below meth c H locs cells slots Q (F0 m tgt ls rest)) (kf : a = 0 → W p l e R s m args below meth c H locs cells slots Q (F0 m (pc + 3) ls rest)) : W p l e R s m args below meth c H locs cells slots Q (F0 m pc ls (.int (nI a) :: rest)) := by
  have e0 := nI_eq ha (show 0 < 2147483648 by omega)
  rw [nI_0] at e0
  exact lv_if_ne hexec hb hdg ht (fun q => kt (fun z => q (e0.mpr z))) (fun q => kf (e0.mp q))
theorem n_if_gt (hexec : p.tables.exec = Jvm.exec) (hb : c.code = cc) {a : Nat} {off : Int} {tgt : Nat} (hdg : decode cc pc = .ok (.ifCond .gt off, 3)) (ht : (pc : Int) + off = (tgt : Int)) (ha : a < 2147483648) (kt : 0 < a → W p l e R s m args below meth c H locs cells slots Q (F0 m tgt ls rest)) (kf : a = 0 → W p l e R s m args below meth c H locs cells slots Q (F0 m (pc + 3) ls rest)) : W p l e R s m args below meth c H locs cells slots Q (F0 m pc ls (.int (nI a) :: rest)) := by
  have e0 := nI_ltI (show 0 < 2147483648 by omega) ha
  rw [nI_0] at e0
  exact lv_if_gt hexec hb hdg ht (fun q => kt (e0.mp q)) (fun q => kf (by have z := mt e0.mpr q; omega))
theorem n_if_le (hexec : p.tables.exec = Jvm.exec) (hb : c.code = cc) {a : Nat} {off : Int} {tgt : Nat} (hdg : decode cc pc = .ok (.ifCond .le off, 3)) (ht : (pc : Int) + off = (tgt : Int)) (ha : a < 2147483648) (kt : a = 0 → W p l e R s m args below meth c H locs cells slots Q (F0 m tgt ls rest)) (kf : 0 < a → W p l e R s m args below meth c H locs cells slots Q (F0 m (pc + 3) ls rest)) : W p l e R s m args below meth c H locs cells slots Q (F0 m pc ls (.int (nI a) :: rest)) := by
  have e0 := nI_leI ha (show 0 < 2147483648 by omega)
  rw [nI_0] at e0
  exact lv_if_le hexec hb hdg ht (fun q => kt (by have z := e0.mp q; omega)) (fun q => kf (by have z := mt e0.mpr q; omega))
theorem n_if_ge (hexec : p.tables.exec = Jvm.exec) (hb : c.code = cc) {a : Nat} {off : Int} {tgt : Nat} (hdg : decode cc pc = .ok (.ifCond .ge off, 3)) (ht : (pc : Int) + off = (tgt : Int)) (ha : a < 2147483648) (kt : W p l e R s m args below meth c H locs cells slots Q (F0 m tgt ls rest)) : W p l e R s m args below meth c H locs cells slots Q (F0 m pc ls (.int (nI a) :: rest)) :=
  lv_if_ge hexec hb hdg ht (fun _ => kt) (fun q => absurd (nI_pos' ha) q)
theorem n_if_lt (hexec : p.tables.exec = Jvm.exec) (hb : c.code = cc) {a : Nat} {off : Int} {tgt : Nat} (hdg : decode cc pc = .ok (.ifCond .lt off, 3)) (ht : (pc : Int) + off = (tgt : Int)) (ha : a < 2147483648) (kf : W p l e R s m args below meth c H locs cells slots Q (F0 m (pc + 3) ls rest)) : W p l e R s m args below meth c H locs cells slots Q (F0 m pc ls (.int (nI a) :: rest)) :=
  lv_if_lt hexec hb hdg ht (fun q => absurd q (nI_pos ha)) (fun _ => kf)
theorem z_if_eq (hexec : p.tables.exec = Jvm.exec) (hb : c.code = cc) {b : Bool} {off : Int} {tgt : Nat} (hdg : decode cc pc = .ok (.ifCond .eq off, 3)) (ht : (pc : Int) + off = (tgt : Int)) (kt : b = false → W p l e R s m args below meth c H locs cells slots Q (F0 m tgt ls rest)) (kf : b = true → W p l e R s m args below meth c H locs cells slots Q (F0 m (pc + 3) ls rest)) : W p l e R s m args below meth c H locs cells slots Q (F0 m pc ls (.int (zb b) :: rest)) :=
  lv_if_eq hexec hb hdg ht (fun q => kt (zb_0.mp q)) (fun q => kf (by cases b; exact absurd rfl q; rfl))
theorem z_if_ne (hexec : p.tables.exec = Jvm.exec) (hb : c.code = cc) {b : Bool} {off : Int} {tgt : Nat} (hdg : decode cc pc = .ok (.ifCond .ne off, 3)) (ht : (pc : Int) + off = (tgt : Int)) (kt : b = true → W p l e R s m args below meth c H locs cells slots Q (F0 m tgt ls rest)) (kf : b = false → W p l e R s m args below meth c H locs cells slots Q (F0 m (pc + 3) ls rest)) : W p l e R s m args below meth c H locs cells slots Q (F0 m pc ls (.int (zb b) :: rest)) :=
  lv_if_ne hexec hb hdg ht (fun q => kt (by cases b; exact absurd rfl q; rfl)) (fun q => kf (zb_0.mp q))
/-- a cut: what goes on at another place, taken first as known, then shown -/
theorem n_cut (pc' : Nat) (st' : List Value) {st : List Value} (h : W p l e R s m args below meth c H locs cells slots Q (F0 m pc' ls st') → W p l e R s m args below meth c H locs cells slots Q (F0 m pc ls st)) (k : W p l e R s m args below meth c H locs cells slots Q (F0 m pc' ls st')) : W p l e R s m args below meth c H locs cells slots Q (F0 m pc ls st) := h k
theorem n_cutL {nL : Nat} (pc' : Nat) (L : List (Nat × Value)) (st' : List Value) {st : List Value} (h : (∀ ls, lv_has ls nL L → W p l e R s m args below meth c H locs cells slots Q (F0 m pc' ls st')) → W p l e R s m args below meth c H locs cells slots Q (F0 m pc ls st)) (k : ∀ ls, lv_has ls nL L → W p l e R s m args below meth c H locs cells slots Q (F0 m pc' ls st')) : W p l e R s m args below meth c H locs cells slots Q (F0 m pc ls st) := h k
theorem n_cutA {α : Type} {nL : Nat} (pc' : Nat) (P : α → Prop) (L : α → List (Nat × Value)) (st' : α → List Value) {st : List Value} (h : (∀ a, P a → ∀ ls, lv_has ls nL (L a) → W p l e R s m args below meth c H locs cells slots Q (F0 m pc' ls (st' a))) → W p l e R s m args below meth c H locs cells slots Q (F0 m pc ls st)) (k : ∀ a, P a → ∀ ls, lv_has ls nL (L a) → W p l e R s m args below meth c H locs cells slots Q (F0 m pc' ls (st' a))) : W p l e R s m args below meth c H locs cells slots Q (F0 m pc ls st) := h k
theorem w_loop {α : Type} {nL : Nat} (pc0 : Nat) (L : α → List (Nat × Value)) (P : α → Prop) (μ : α → Nat) {st : List Value} (hs : ∀ a, P a → (∀ b, P b → μ b < μ a → ∀ ls, lv_has ls nL (L b) → W p l e R s m args below meth c H locs cells slots Q (F0 m pc0 ls st)) → ∀ ls, lv_has ls nL (L a) → W p l e R s m args below meth c H locs cells slots Q (F0 m pc0 ls st)) (a : α) (ha : P a) : ∀ ls, lv_has ls nL (L a) → W p l e R s m args below meth c H locs cells slots Q (F0 m pc0 ls st) := by
  have key : ∀ (n : Nat) (a : α), μ a < n → P a → ∀ ls, lv_has ls nL (L a) → W p l e R s m args below meth c H locs cells slots Q (F0 m pc0 ls st) := by
    intro n
    induction n with
    | zero => intro a h; exact absurd h (Nat.not_lt_zero _)
    | succ n ih => exact fun a h ha => hs a ha (fun b hb hlt => ih b (by omega) hb)
  exact key (μ a + 1) a (Nat.lt_succ_self _) ha
variable {D : va_G} {cl : List vw_C} {A : Nat → Prop} {a : Nat} {tys : List (ClassId × FieldType)} {ws : va_W} {H0 : Heap}
theorem w_loopH {α : Type} {nL : Nat} (pc0 : Nat) (L : α → List (Nat × Value)) (V : α → va_W) (P : α → Prop) (μ : α → Nat) {st : List Value} (hs : ∀ a, P a → (∀ b, P b → μ b < μ a → ∀ ls H locs, lv_has ls nL (L b) → va_P D cl (V b) H → va_D A (V b) → va_S A H0 H locs → W p l e R s m args below meth c H locs cells slots Q (F0 m pc0 ls st)) → ∀ ls H locs, lv_has ls nL (L a) → va_P D cl (V a) H → va_D A (V a) → va_S A H0 H locs → W p l e R s m args below meth c H locs cells slots Q (F0 m pc0 ls st)) (a : α) (ha : P a) : ∀ ls H locs, lv_has ls nL (L a) → va_P D cl (V a) H → va_D A (V a) → va_S A H0 H locs → W p l e R s m args below meth c H locs cells slots Q (F0 m pc0 ls st) := by
  have key : ∀ (n : Nat) (a : α), μ a < n → P a → ∀ ls H locs, lv_has ls nL (L a) → va_P D cl (V a) H → va_D A (V a) → va_S A H0 H locs → W p l e R s m args below meth c H locs cells slots Q (F0 m pc0 ls st) := by
    intro n
    induction n with
    | zero => intro a h; exact absurd h (Nat.not_lt_zero _)
    | succ n ih => exact fun a h ha => hs a ha (fun b hb hlt => ih b (by omega) hb)
  exact key (μ a + 1) a (Nat.lt_succ_self _) ha
theorem n_cutH {α : Type} {nL : Nat} (pc' : Nat) (P : α → Prop) (L : α → List (Nat × Value)) (V : α → va_W) (st' : α → List Value) {st : List Value} (h : (∀ a, P a → ∀ ls H locs, lv_has ls nL (L a) → va_P D cl (V a) H → va_D A (V a) → va_S A H0 H locs → W p l e R s m args below meth c H locs cells slots Q (F0 m pc' ls (st' a))) → W p l e R s m args below meth c H locs cells slots Q (F0 m pc ls st)) (k : ∀ a, P a → ∀ ls H locs, lv_has ls nL (L a) → va_P D cl (V a) H → va_D A (V a) → va_S A H0 H locs → W p l e R s m args below meth c H locs cells slots Q (F0 m pc' ls (st' a))) : W p l e R s m args below meth c H locs cells slots Q (F0 m pc ls st) := h k
theorem n_iald (hexec : p.tables.exec = Jvm.exec) (hb : c.code = cc) (hK : va_K D cl tys s) (hP : va_P D cl ws H) (q0 t0 : Nat) {cA : ClassId} {n : Nat} {f : Nat → Int32} (ha : ws[q0]? = some (a, .inl (cA, n, .inl f))) (ht : tys[t0]? = some (cA, .int)) {j : Nat} (hj : j < n) (hn : n < 2147483648) {v : Int32} (hv : f j = v) (hdg : decode cc pc = .ok (.iaload, 1)) (kk : W p l e R s m args below meth c H locs cells slots Q (F0 m (pc + 1) ls (.int v :: rest))) : W p l e R s m args below meth c H locs cells slots Q (F0 m pc ls (.int (nI j) :: .ref a :: rest)) :=
  va_iald hexec hb hK hP q0 t0 ha ht (vp_in_nI hj hn) hdg (by rw [nI_clamp (by omega), hv]; exact kk)
theorem n_bald (hexec : p.tables.exec = Jvm.exec) (hb : c.code = cc) (hK : va_K D cl tys s) (hP : va_P D cl ws H) (q0 t0 : Nat) {cA : ClassId} {n : Nat} {f : Nat → Int32} (ha : ws[q0]? = some (a, .inl (cA, n, .inl f))) (ht : tys[t0]? = some (cA, .byte)) {j : Nat} (hj : j < n) (hn : n < 2147483648) {v : Int32} (hv : f j = v) (hdg : decode cc pc = .ok (.baload, 1)) (kk : W p l e R s m args below meth c H locs cells slots Q (F0 m (pc + 1) ls (.int v :: rest))) : W p l e R s m args below meth c H locs cells slots Q (F0 m pc ls (.int (nI j) :: .ref a :: rest)) :=
  va_bald hexec hb hK hP q0 t0 ha ht (vp_in_nI hj hn) hdg (by rw [nI_clamp (by omega), hv]; exact kk)
theorem n_zald (hexec : p.tables.exec = Jvm.exec) (hb : c.code = cc) (hK : va_K D cl tys s) (hP : va_P D cl ws H) (q0 t0 : Nat) {cA : ClassId} {n : Nat} {f : Nat → Int32} (ha : ws[q0]? = some (a, .inl (cA, n, .inl f))) (ht : tys[t0]? = some (cA, .boolean)) {j : Nat} (hj : j < n) (hn : n < 2147483648) {v : Int32} (hv : f j = v) (hdg : decode cc pc = .ok (.baload, 1)) (kk : W p l e R s m args below meth c H locs cells slots Q (F0 m (pc + 1) ls (.int v :: rest))) : W p l e R s m args below meth c H locs cells slots Q (F0 m pc ls (.int (nI j) :: .ref a :: rest)) :=
  va_zald hexec hb hK hP q0 t0 ha ht (vp_in_nI hj hn) hdg (by rw [nI_clamp (by omega), hv]; exact kk)
theorem n_aald (hexec : p.tables.exec = Jvm.exec) (hb : c.code = cc) (hK : va_K D cl tys s) (hP : va_P D cl ws H) (q0 t0 : Nat) {cA : ClassId} {C : String} {n : Nat} {f : Nat → Option Nat} (ha : ws[q0]? = some (a, .inl (cA, n, .inr (.inr (.inr (.inr f)))))) (ht : tys[t0]? = some (cA, .object C)) {j : Nat} (hj : j < n) (hn : n < 2147483648) {v : Nat} (hv : f j = some v) (hdg : decode cc pc = .ok (.aaload, 1)) (kk : W p l e R s m args below meth c H locs cells slots Q (F0 m (pc + 1) ls (.ref v :: rest))) : W p l e R s m args below meth c H locs cells slots Q (F0 m pc ls (.int (nI j) :: .ref a :: rest)) :=
  va_aldq hexec hb hK hP q0 t0 ha ht (vp_in_nI hj hn) hdg (by rw [nI_clamp (by omega), hv]; exact kk)
theorem n_iast (hexec : p.tables.exec = Jvm.exec) (hb : c.code = cc) (hK : va_K D cl tys s) (hP : va_P D cl ws H) (hD : va_D A ws) (hS : va_S A H0 H locs) (q0 t0 : Nat) {cA : ClassId} {n : Nat} {f : Nat → Int32} (ha : ws[q0]? = some (a, .inl (cA, n, .inl f))) (ht : tys[t0]? = some (cA, .int)) {j : Nat} {x : Int32} (hj : j < n) (hn : n < 2147483648) (hdg : decode cc pc = .ok (.iastore, 1))
    (kk : ∀ (H : Heap) (locs : List Loc), va_P D cl (ws.set q0 (a, .inl (cA, n, .inl (upd f j x)))) H → va_D A (ws.set q0 (a, .inl (cA, n, .inl (upd f j x)))) → va_S A H0 H locs → W p l e R s m args below meth c H locs cells slots Q (F0 m (pc + 1) ls rest)) : W p l e R s m args below meth c H locs cells slots Q (F0 m pc ls (.int x :: .int (nI j) :: .ref a :: rest)) :=
  va_iast hexec hb hK hP hD hS q0 t0 ha ht (vp_in_nI hj hn) hdg (by rw [nI_clamp (by omega)]; exact kk)
theorem n_bast (hexec : p.tables.exec = Jvm.exec) (hb : c.code = cc) (hK : va_K D cl tys s) (hP : va_P D cl ws H) (hD : va_D A ws) (hS : va_S A H0 H locs) (q0 t0 : Nat) {cA : ClassId} {n : Nat} {f : Nat → Int32} (ha : ws[q0]? = some (a, .inl (cA, n, .inl f))) (ht : tys[t0]? = some (cA, .byte)) {j : Nat} {x : Int32} (hj : j < n) (hn : n < 2147483648) {v : Int32} (hv : vp_nar .byte x = v) (hdg : decode cc pc = .ok (.bastore, 1))
    (kk : ∀ (H : Heap) (locs : List Loc), va_P D cl (ws.set q0 (a, .inl (cA, n, .inl (upd f j v)))) H → va_D A (ws.set q0 (a, .inl (cA, n, .inl (upd f j v)))) → va_S A H0 H locs → W p l e R s m args below meth c H locs cells slots Q (F0 m (pc + 1) ls rest)) : W p l e R s m args below meth c H locs cells slots Q (F0 m pc ls (.int x :: .int (nI j) :: .ref a :: rest)) :=
  va_bast hexec hb hK hP hD hS q0 t0 ha ht (vp_in_nI hj hn) hdg (by rw [nI_clamp (by omega), hv]; exact kk)
theorem n_zast (hexec : p.tables.exec = Jvm.exec) (hb : c.code = cc) (hK : va_K D cl tys s) (hP : va_P D cl ws H) (hD : va_D A ws) (hS : va_S A H0 H locs) (q0 t0 : Nat) {cA : ClassId} {n : Nat} {f : Nat → Int32} (ha : ws[q0]? = some (a, .inl (cA, n, .inl f))) (ht : tys[t0]? = some (cA, .boolean)) {j : Nat} {x : Int32} (hj : j < n) (hn : n < 2147483648) {v : Int32} (hv : vp_nar .boolean x = v) (hdg : decode cc pc = .ok (.bastore, 1))
    (kk : ∀ (H : Heap) (locs : List Loc), va_P D cl (ws.set q0 (a, .inl (cA, n, .inl (upd f j v)))) H → va_D A (ws.set q0 (a, .inl (cA, n, .inl (upd f j v)))) → va_S A H0 H locs → W p l e R s m args below meth c H locs cells slots Q (F0 m (pc + 1) ls rest)) : W p l e R s m args below meth c H locs cells slots Q (F0 m pc ls (.int x :: .int (nI j) :: .ref a :: rest)) :=
  va_zast hexec hb hK hP hD hS q0 t0 ha ht (vp_in_nI hj hn) hdg (by rw [nI_clamp (by omega), hv]; exact kk)
/-- a call that only reads, whatever row ran it -/
theorem va_callR {pc : Nat} {st0 : List Value} {r : Int32} {aa : Array Value} (hr : va_Run p l e R s m args below meth c H locs cells slots 0 0 (F0 m pc ls st0) rest (QcRead r aa) (fun _ => False)) (kk : W p l e R s m args below meth c H locs cells slots Q (F0 m (pc + 3) ls (.int r :: rest))) : W p l e R s m args below meth c H locs cells slots Q (F0 m pc ls st0) := by
  intro T hT X
  obtain ⟨v, st₀, t, T', L, h0, X', hL, e1, e2, ⟨hv, hh⟩, st⟩ := hr T hT X
  cases hv
  obtain ⟨t2, a1, b1⟩ := kk T' (by rw [e1, hh, h0]) (Stand.forget X' (fun q h => (hL q h).elim))
  exact ⟨t2, st t2 a1, b1⟩
theorem n_iret {Qc : Array Value → State → Outcome → State → Prop} {free : Addr → Prop} {v w : Int32} (hexec : p.tables.exec = Jvm.exec) (hb : c.code = cc) (hr : meth.sig.returnType = some .int) (hlocks : meth.locks = false) (hw : v = w) (hdg : decode cc pc = .ok (.ireturn, 1)) : W p l e R s m args below meth c s.heap [] cells slots (MQ below (QcRead w) args s cells slots free) (F0 m pc ls [.int v]) := by
  subst hw
  exact W.iret hexec hb hr (fun t ht hW => ⟨rfl, ht⟩) (fun q h => by cases h) hdg hlocks
theorem n_zret {Qc : Array Value → State → Outcome → State → Prop} {free : Addr → Prop} {v : Int32} {b : Bool} (hexec : p.tables.exec = Jvm.exec) (hb : c.code = cc) (hr : meth.sig.returnType = some .boolean) (hlocks : meth.locks = false) (hw : v = zb b) (hdg : decode cc pc = .ok (.ireturn, 1)) : W p l e R s m args below meth c s.heap [] cells slots (MQ below (QcRead (zb b)) args s cells slots free) (F0 m pc ls [.int v]) := by
  subst hw
  exact W.zret hexec hb hr (zb_nar b) (fun t ht hW => ⟨rfl, ht⟩) (fun q h => by cases h) hdg hlocks
theorem pre0 {As : List Value} : PreS s H (va_Pc As (fun _ => True)) As := ⟨fun _ _ _ _ q => q, fun _ _ _ => ⟨rfl, trivial⟩⟩
end BR
