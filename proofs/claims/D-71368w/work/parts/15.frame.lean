/-! methods that write: ends, calls, the frame -/
set_option maxRecDepth 100000
def QcLong (r : Int64) : Array Value → State → Outcome → State → Prop := fun _ st o t => o = .returned (some (.long r)) ∧ t.heap = st.heap
/-- a list of cells' own addresses -/
def SA (wc : va_W) : Nat → Prop := fun q => ∃ (k : Nat) (e : va_E), wc[k]? = some (q, e)
section HR
variable {p : Program} {l : Launch} {e : Env} {R : Room} {s : State} {m : MethodId} {args : Array Value} {below : List Frame} {meth : Method} {c : Code} {H : Heap} {locs : List Loc} {cells slots : Nat} {Q : State → Prop}
variable {cc : ByteArray} {pc : Nat} {ls : Array Slot} {rest st0 : List Value} {D : va_G} {y : Nat → ClassId} {A : Nat → Prop} {H0 : Heap} {mc ms : Nat} {aa : Array Value}
theorem h_iret {σ : Type} {post : Int32 → σ → Prop} {V : σ → va_W} (u : σ) {v : Int32} (hexec : p.tables.exec = Jvm.exec) (hb : c.code = cc) (hr : meth.sig.returnType = some .int) (hlocks : meth.locks = false) (hC : CX D y s) (hP : va_P D kcl (V u) H) (hD : va_D A (V u)) (hS : va_S A s.heap H locs) (hp : post v u) (hdg : decode cc pc = .ok (.ireturn, 1)) :
    W p l e R s m args below meth c H locs cells slots (MQ below (va_Qi post (fun u t => WH D y A (V u) t) A) args s cells slots A) (F0 m pc ls [.int v]) :=
  W.iret hexec hb hr (fun t ht hW => ⟨⟨v, u, rfl, hp, hC.warm hW, by rw [ht]; exact hP, hD⟩, hS.F ht⟩) hS.2.2 hdg hlocks
theorem h_vret {σ : Type} {post : σ → Prop} {V : σ → va_W} (u : σ) (hexec : p.tables.exec = Jvm.exec) (hb : c.code = cc) (hr : meth.sig.returnType = none) (hlocks : meth.locks = false) (hC : CX D y s) (hP : va_P D kcl (V u) H) (hD : va_D A (V u)) (hS : va_S A s.heap H locs) (hp : post u) (hdg : decode cc pc = .ok (.return_, 1)) :
    W p l e R s m args below meth c H locs cells slots (MQ below (va_Qv post (fun u t => WH D y A (V u) t) A) args s cells slots A) (F0 m pc ls []) :=
  W.vret hexec hb hr (fun t ht hW => ⟨⟨u, rfl, hp, hC.warm hW, by rw [ht]; exact hP, hD⟩, hS.F ht⟩) hS.2.2 hdg hlocks
theorem h_lret {v : Int64} (hexec : p.tables.exec = Jvm.exec) (hb : c.code = cc) (hr : meth.sig.returnType = some .long) (hlocks : meth.locks = false) (hdg : decode cc pc = .ok (.lreturn, 1)) {free : Addr → Prop} : W p l e R s m args below meth c s.heap [] cells slots (MQ below (QcLong v) args s cells slots free) (F0 m pc ls [.long v]) :=
  W.lret hexec hb hr (fun t ht hW => ⟨rfl, ht⟩) (fun q h => by cases h) hdg hlocks
theorem h_calli {σ : Type} {post : Int32 → σ → Prop} {V : σ → va_W} (hr : va_Run p l e R s m args below meth c H locs cells slots mc ms (F0 m pc ls st0) rest (va_Qi post (fun u t => WH D y A (V u) t) A aa) A) (hS : va_S A H0 H locs)
    (kk : ∀ (r : Int32) (u : σ) (H : Heap) (locs : List Loc), post r u → va_P D kcl (V u) H → va_D A (V u) → va_S A H0 H locs → W p l e R s m args below meth c H locs (cells + mc) (slots + ms) Q (F0 m (pc + 3) ls (.int r :: rest))) : W p l e R s m args below meth c H locs cells slots Q (F0 m pc ls st0) :=
  va_calli hr hS (fun _ _ h => h) (fun _ h => h) (fun r u t H1 locs1 ht _ hp hB _ _ hS1 => kk r u H1 locs1 hp (ht ▸ hB.2.1) hB.2.2 hS1)
theorem h_callv {σ : Type} {post : σ → Prop} {V : σ → va_W} (hr : va_Run p l e R s m args below meth c H locs cells slots mc ms (F0 m pc ls st0) rest (va_Qv post (fun u t => WH D y A (V u) t) A aa) A) (hS : va_S A H0 H locs)
    (kk : ∀ (u : σ) (H : Heap) (locs : List Loc), post u → va_P D kcl (V u) H → va_D A (V u) → va_S A H0 H locs → W p l e R s m args below meth c H locs (cells + mc) (slots + ms) Q (F0 m (pc + 3) ls rest)) : W p l e R s m args below meth c H locs cells slots Q (F0 m pc ls st0) :=
  va_callv hr hS (fun _ _ h => h) (fun _ h => h) (fun u t H1 locs1 ht _ hp hB _ _ hS1 => kk u H1 locs1 hp (ht ▸ hB.2.1) hB.2.2 hS1)
theorem va_D_adr {ws ws' : va_W} (h : ws'.map Prod.fst = ws.map Prod.fst) (hD : va_D A ws) : va_D A ws' := by
  have key : ∀ (i : Nat) (q : Nat × va_E), ws'[i]? = some q → ∃ q0, ws[i]? = some q0 ∧ q0.1 = q.1 := by
    intro i q hq
    have h1 : (ws'.map Prod.fst)[i]? = some q.1 := by rw [List.getElem?_map, hq]; rfl
    rw [h, List.getElem?_map] at h1
    cases hw : ws[i]? with
    | none => rw [hw] at h1; cases h1
    | some q0 => rw [hw] at h1; exact ⟨q0, rfl, Option.some.inj h1⟩
  refine ⟨fun i j x z hi hj hxz => ?_, fun k q hk => ?_⟩
  · obtain ⟨x0, h1, h2⟩ := key i x hi
    obtain ⟨z0, h3, h4⟩ := key j z hj
    exact hD.1 i j x0 z0 h1 h3 (h2.trans (hxz.trans h4.symm))
  · obtain ⟨q0, h1, h2⟩ := key k q hk
    rw [← h2]; exact hD.2 k q0 h1
/-- a call on a part of the world, which comes back in its places -/
theorem h_callW {σ : Type} {post : σ → Prop} {w1 ws' : σ → va_W} {wc ws : va_W} (hr : va_Run p l e R s m args below meth c H locs cells slots mc ms (F0 m pc ls st0) rest (va_Qv post (fun u t => WH D y (SA wc) (w1 u) t) (SA wc) aa) (SA wc)) (hP : va_P D kcl ws H) (hD : va_D A ws) (hS : va_S A H0 H locs)
    (hsub : ∀ (k : Nat) (q : Nat × va_E), wc[k]? = some q → ∃ i : Nat, ws[i]? = some q)
    (hws : ∀ u, post u → ∀ (k : Nat) (q : Nat × va_E), (ws' u)[k]? = some q → (∃ i : Nat, (w1 u)[i]? = some q) ∨ (ws[k]? = some q ∧ ¬ SA wc q.1)) (hadr : ∀ u, (ws' u).map Prod.fst = ws.map Prod.fst)
    (kk : ∀ (u : σ) (H : Heap) (locs : List Loc), post u → va_P D kcl (ws' u) H → va_D A (ws' u) → va_S A H0 H locs → W p l e R s m args below meth c H locs (cells + mc) (slots + ms) Q (F0 m (pc + 3) ls rest)) : W p l e R s m args below meth c H locs cells slots Q (F0 m pc ls st0) := by
  have hA : ∀ q, SA wc q → A q := by
    rintro q ⟨k, e0, h⟩
    obtain ⟨i, hi⟩ := hsub k _ h
    exact hD.2 i _ hi
  refine va_callv hr hS (fun q _ h => hA q h) (fun q h => hA q h) (fun u t H1 locs1 ht _ hp hB _ hk hS1 => kk u H1 locs1 hp ?_ (va_D_adr (hadr u) hD) hS1)
  intro k q hq
  rcases hws u hp k q hq with ⟨i, hi⟩ | ⟨h1, h2⟩
  · have := hB.2.1 i q hi
    rw [ht] at this
    exact this
  · have h3 := hP k q h1
    exact h3.kept (hk q.1 h3.lt h2)
theorem n_copyi (hexec : p.tables.exec = Jvm.exec) (hb : c.code = cc) (hml : c.maxLocals = ls.size) {own : String} {index : Nat} (hown : s.vm.findClass own = some m.cls) (hlink : (Cond.methodLink own index arraycopyName).before args s = true) (hnat : (Cond.native arraycopyName).before args s = true) (hstat : (Cond.static arraycopyName).before args s = true) (hini : (Cond.initialized "java/lang/System").before args s = true)
    {cl : List vw_C} {tys : List (ClassId × FieldType)} {ws : va_W} {a : Nat} (hK : va_K D cl tys s) (hP : va_P D cl ws H) (hD : va_D A ws) (hS : va_S A H0 H locs) (q0 q1 t0 t1 : Nat) {a0 : Nat} {c0 c1 : ClassId} {n0 n1 : Nat} {f g : Nat → Int32} {ty : FieldType} (ha0 : ws[q0]? = some (a0, .inl (c0, n0, .inl f))) (ha1 : ws[q1]? = some (a, .inl (c1, n1, .inl g))) (ht0 : tys[t0]? = some (c0, ty)) (ht1 : tys[t1]? = some (c1, ty)) (hprim : refKind ty = false)
    {sp dp n : Nat} (h4 : sp + n ≤ n0) (h5 : dp + n ≤ n1) (hn0 : n0 < 2147483648) (hn1 : n1 < 2147483648) (hfit : ∀ i, i < n → fits ty (.int (f (sp + i))) = true)
    (hframes : 1 ≤ R.frames) (hlocals : (rest.map fun v => v.category).sum + (nativeFrameWords "java/lang/System" "arraycopy" 5 + 11) ≤ R.locals) (hdg : decode cc pc = .ok (.invokestatic index, 3))
    (kk : ∀ (H : Heap) (locs : List Loc), va_P D cl (ws.set q1 (a, .inl (c1, n1, .inl (va_cpy f g sp dp n)))) H → va_D A (ws.set q1 (a, .inl (c1, n1, .inl (va_cpy f g sp dp n)))) → va_S A H0 H locs → W p l e R s m args below meth c H locs cells slots Q (F0 m (pc + 3) ls rest)) : W p l e R s m args below meth c H locs cells slots Q (F0 m pc ls (.int (nI n) :: .int (nI dp) :: .ref a :: .int (nI sp) :: .ref a0 :: rest)) := by
  have e1 : (nI sp).toNatClampNeg = sp := nI_clamp (by omega)
  have e2 : (nI dp).toNatClampNeg = dp := nI_clamp (by omega)
  have e3 : (nI n).toNatClampNeg = n := nI_clamp (by omega)
  refine va_copyi hexec hb hml hown hlink hnat hstat hini hK hP hD hS q0 q1 t0 t1 ha0 ha1 ht0 ht1 hprim (nI_pos (by omega)) (nI_pos (by omega)) (nI_pos (by omega)) (by rw [e1, e3]; exact h4) (by rw [e2, e3]; exact h5) (by rw [e1, e3]; exact hfit) hframes hlocals hdg ?_
  rw [e1, e2, e3]
  exact kk
end HR
/-! the component's cells by place -/
theorem cellsX_split {y : Nat → ClassId} {c : Nat → Nat} {J : XJ} : cellsX y c J = headX y c J ++ poolW y c J.pl := rfl
theorem headX_len {y : Nat → ClassId} {c : Nat → Nat} {J : XJ} : (headX y c J).length = 39 := rfl
theorem poolW_at {y : Nat → ClassId} {c : Nat → Nat} {P : Nat → AJ} {i : Nat} (h : i < 160) : (poolW y c P)[i]? = some (c (39 + i), poolE y c P i) := by
  simp [poolW, h]
theorem poolW_len {y : Nat → ClassId} {c : Nat → Nat} {P : Nat → AJ} : (poolW y c P).length = 160 := by simp [poolW]
theorem cellsX_hi {y : Nat → ClassId} {c : Nat → Nat} {J : XJ} {i : Nat} (h : i < 160) : (cellsX y c J)[39 + i]? = some (c (39 + i), poolE y c J.pl i) := by
  rw [cellsX_split, List.getElem?_append_right (by rw [headX_len]; omega), headX_len, Nat.add_sub_cancel_left, poolW_at h]
theorem cellsX_len {y : Nat → ClassId} {c : Nat → Nat} {J : XJ} : (cellsX y c J).length = 199 := by
  rw [cellsX_split, List.length_append, headX_len, poolW_len]
theorem headX_adr {y : Nat → ClassId} {c : Nat → Nat} {J : XJ} : (headX y c J).map Prod.fst = (List.range 39).map c := rfl
theorem cellsX_adr (y : Nat → ClassId) (c : Nat → Nat) (J : XJ) : (cellsX y c J).map Prod.fst = (List.range 39).map c ++ (List.range 160).map (fun i => c (39 + i)) := by
  rw [cellsX_split, List.map_append, headX_adr]
  congr 1
theorem cellsX_c {y : Nat → ClassId} {c : Nat → Nat} {J : XJ} {k : Nat} {q : Nat × va_E} (h : (cellsX y c J)[k]? = some q) : k < 199 ∧ q.1 = c k := by
  have hk : k < 199 := by rw [← cellsX_len (y := y) (c := c) (J := J)]; exact (List.getElem?_eq_some_iff.mp h).1
  refine ⟨hk, ?_⟩
  have h1 : ((cellsX y c J).map Prod.fst)[k]? = some q.1 := by rw [List.getElem?_map, h]; rfl
  rw [cellsX_adr] at h1
  rcases Nat.lt_or_ge k 39 with h2 | h2
  · rw [List.getElem?_append_left (by simpa using h2), List.getElem?_map, List.getElem?_range h2] at h1
    exact (Option.some.inj h1).symm
  · rw [List.getElem?_append_right (by simpa using h2), List.length_map, List.length_range, List.getElem?_map, List.getElem?_range (by omega)] at h1
    have h3 := Option.some.inj h1
    rw [← h3]
    show c (39 + (k - 39)) = c k
    rw [show 39 + (k - 39) = k by omega]
/-- an age of the pool, as five cells -/
theorem age_at {y : Nat → ClassId} {c : Nat → Nat} {P : Nat → AJ} {j i : Nat} (hi : i < 5) : (ageW y (fun i => c (39 + 5 * j + i)) (P j))[i]? = some (c (39 + (5 * j + i)), poolE y c P (5 * j + i)) := by
  have h1 : (5 * j + i) / 5 = j := by omega
  have h2 : (5 * j + i) % 5 = i := by omega
  unfold poolE
  rw [h1, h2]
  match i, hi with
  | 0, _ =>
    rw [show 40 + (5 * j + 0) = 39 + 5 * j + 1 by omega, show 41 + (5 * j + 0) = 39 + 5 * j + 2 by omega, show 42 + (5 * j + 0) = 39 + 5 * j + 3 by omega, show 43 + (5 * j + 0) = 39 + 5 * j + 4 by omega, ← Nat.add_assoc]
    rfl
  | 1, _ => rw [← Nat.add_assoc]; rfl
  | 2, _ => rw [← Nat.add_assoc]; rfl
  | 3, _ => rw [← Nat.add_assoc]; rfl
  | 4, _ => rw [← Nat.add_assoc]; rfl
theorem ageW_len {y : Nat → ClassId} {a : Nat → Nat} {A : AJ} : (ageW y a A).length = 5 := rfl
theorem poolE_up {y : Nat → ClassId} {c : Nat → Nat} {P : Nat → AJ} {j i : Nat} {u : AJ} (h : i / 5 ≠ j) : poolE y c (va_up P j u) i = poolE y c P i := by
  unfold poolE
  rw [va_up_ne P u h]
def CopyOf (u B : AJ) : Prop := (∀ j, j < 9 → u.1 j = B.1 j) ∧ (∀ j, j < 9 → u.2.1 j = B.2.1 j) ∧ (∀ j, j < 9 → u.2.2.1 j = B.2.2.1 j) ∧ (∀ j, j < 6 → u.2.2.2.1 j = B.2.2.2.1 j) ∧ u.2.2.2.2 = B.2.2.2.2 ∧ AFit u
theorem CopyOf.ok {u B : AJ} {S : St} {a : Nat → Nat} (hI : StOk S) (h : CopyOf u B) (hB : AgOk S a B) : AgOk S a u := by
  have h1 := hI.str
  have h2 := hI.ppl
  exact ⟨fun s hs => (h.1 s (by omega)).trans (hB.seen s hs), fun s hs => (h.2.1 s (by omega)).trans (hB.hidden s hs), fun s hs => (h.2.2.1 s (by omega)).trans (hB.faked s hs), fun q hq => (h.2.2.2.1 q (by omega)).trans (hB.home q hq), h.2.2.2.2.1.trans hB.night⟩
/-- which cells of the world are not an age's five -/
theorem sa_age {y : Nat → ClassId} {a : Nat → Nat} {A : AJ} {q : Nat} (h : SA (ageW y a A) q) : ∃ i, i < 5 ∧ q = a i := by
  obtain ⟨k, e, h⟩ := h
  have hk : k < 5 := (List.getElem?_eq_some_iff.mp h).1
  refine ⟨k, hk, ?_⟩
  match k, hk, h with
  | 0, _, h => cases h; rfl
  | 1, _, h => cases h; rfl
  | 2, _, h => cases h; rfl
  | 3, _, h => cases h; rfl
  | 4, _, h => cases h; rfl
theorem sa_app {w1 w2 : va_W} {q : Nat} (h : SA (w1 ++ w2) q) : SA w1 q ∨ SA w2 q := by
  obtain ⟨k, e, h⟩ := h
  rcases List.mem_append.mp (List.mem_of_getElem? h) with h1 | h1
  · obtain ⟨i, hi⟩ := List.getElem?_of_mem h1
    exact Or.inl ⟨i, e, hi⟩
  · obtain ⟨i, hi⟩ := List.getElem?_of_mem h1
    exact Or.inr ⟨i, e, hi⟩
/-- addresses of the world are apart -/
theorem x_inj {A : Nat → Prop} {y : Nat → ClassId} {c : Nat → Nat} {J : XJ} (hD : va_D A (cellsX y c J)) {i j : Nat} (hi : i < 199) (hj : j < 199) (h : c i = c j) : i = j := by
  have g : ∀ k, k < 199 → ∃ q, (cellsX y c J)[k]? = some q ∧ q.1 = c k := by
    intro k hk
    have h1 : k < (cellsX y c J).length := by rw [cellsX_len]; exact hk
    exact ⟨_, List.getElem?_eq_getElem h1, (cellsX_c (List.getElem?_eq_getElem h1)).2⟩
  obtain ⟨a, h1, h2⟩ := g i hi
  obtain ⟨b, h3, h4⟩ := g j hj
  exact hD.1 i j a b h1 h3 (h2.trans (h.trans h4.symm))
abbrev nowA (c : Nat → Nat) : Nat → Nat := fun i => c (7 + i)
abbrev polA (c : Nat → Nat) (j : Nat) : Nat → Nat := fun i => c (39 + 5 * j + i)
theorem now_at {y : Nat → ClassId} {c : Nat → Nat} {J : XJ} {i : Nat} (hi : i < 5) : (cellsX y c J)[7 + i]? = (ageW y (nowA c) J.nw)[i]? := by
  match i, hi with
  | 0, _ => rfl
  | 1, _ => rfl
  | 2, _ => rfl
  | 3, _ => rfl
  | 4, _ => rfl
theorem pol_at {y : Nat → ClassId} {c : Nat → Nat} {J : XJ} {i j : Nat} (hj : j < 32) (hi : i < 5) : (cellsX y c J)[39 + (5 * j + i)]? = (ageW y (polA c j) (J.pl j))[i]? := by
  rw [cellsX_hi (by omega), age_at hi]
/-- where two ages are taken out of the world -/
theorem sub_ages {y : Nat → ClassId} {c : Nat → Nat} {J : XJ} {w1 w2 : va_W} {f g : Nat → Nat} (h1 : ∀ i, i < 5 → (cellsX y c J)[f i]? = w1[i]?) (h2 : ∀ i, i < 5 → (cellsX y c J)[g i]? = w2[i]?) (l1 : w1.length = 5) (l2 : w2.length = 5) (k : Nat) (q : Nat × va_E) (h : (w1 ++ w2)[k]? = some q) : ∃ i : Nat, (cellsX y c J)[i]? = some q := by
  rcases List.mem_append.mp (List.mem_of_getElem? h) with z | z
  · obtain ⟨i, hi⟩ := List.getElem?_of_mem z
    have hl : i < 5 := by rw [← l1]; exact (List.getElem?_eq_some_iff.mp hi).1
    exact ⟨f i, (h1 i hl).trans hi⟩
  · obtain ⟨i, hi⟩ := List.getElem?_of_mem z
    have hl : i < 5 := by rw [← l2]; exact (List.getElem?_eq_some_iff.mp hi).1
    exact ⟨g i, (h2 i hl).trans hi⟩
theorem app_l {w1 w2 : va_W} {q : Nat × va_E} {i : Nat} (h : w1[i]? = some q) : ∃ k : Nat, (w1 ++ w2)[k]? = some q := List.getElem?_of_mem (List.mem_append_left _ (List.mem_of_getElem? h))
theorem app_r {w1 w2 : va_W} {q : Nat × va_E} {i : Nat} (h : w2[i]? = some q) : ∃ k : Nat, (w1 ++ w2)[k]? = some q := List.getElem?_of_mem (List.mem_append_right _ (List.mem_of_getElem? h))
/-- into the pool -/
theorem put_pool {A : Nat → Prop} {y : Nat → ClassId} {c : Nat → Nat} {J : XJ} (hD : va_D A (cellsX y c J)) {j : Nat} (hj : j < 32) {g : Nat → Nat} (hg : ∀ i, i < 5 → g i < 199) (hgj : ∀ i i', i < 5 → i' < 5 → g i ≠ 39 + 5 * j + i') {B : AJ} (hB : ∀ i, i < 5 → (cellsX y c J)[g i]? = (ageW y (fun i => c (g i)) B)[i]?) (u : AJ) (k : Nat) (q : Nat × va_E) (h : (cellsX y c (J.pl' (va_up J.pl j u)))[k]? = some q) :
    (∃ i : Nat, (ageW y (polA c j) u ++ ageW y (fun i => c (g i)) B)[i]? = some q) ∨ ((cellsX y c J)[k]? = some q ∧ ¬ SA (ageW y (polA c j) (J.pl j) ++ ageW y (fun i => c (g i)) B) q.1) := by
  obtain ⟨hk, hq⟩ := cellsX_c h
  by_cases h1 : 39 + 5 * j ≤ k ∧ k < 39 + 5 * j + 5
  · left
    obtain ⟨i, hi, rfl⟩ : ∃ i, i < 5 ∧ k = 39 + (5 * j + i) := ⟨k - 39 - 5 * j, by omega, by omega⟩
    have h2 := pol_at (y := y) (c := c) (J := J.pl' (va_up J.pl j u)) hj hi
    rw [h] at h2
    have h3 : (J.pl' (va_up J.pl j u)).pl j = u := va_up_self _ _ _
    rw [h3] at h2
    exact app_l h2.symm
  · have hold : (cellsX y c J)[k]? = some q := by
      rcases Nat.lt_or_ge k 39 with z | z
      · rw [cellsX_split, List.getElem?_append_left (by rw [headX_len]; exact z)] at h ⊢
        exact h
      · obtain ⟨i, rfl⟩ : ∃ i, k = 39 + i := ⟨k - 39, by omega⟩
        rw [cellsX_hi (by omega)] at h ⊢
        have : poolE y c (J.pl' (va_up J.pl j u)).pl i = poolE y c J.pl i := poolE_up (by omega)
        rw [this] at h
        exact h
    by_cases h2 : ∃ i, i < 5 ∧ k = g i
    · left
      obtain ⟨i, hi, rfl⟩ := h2
      rw [hB i hi] at hold
      exact app_r hold
    · right
      refine ⟨hold, fun hs => ?_⟩
      rcases sa_app hs with z | z
      · obtain ⟨i, hi, e⟩ := sa_age z
        rw [hq] at e
        have := x_inj hD hk (show 39 + 5 * j + i < 199 by omega) e
        exact h1 ⟨by omega, by omega⟩
      · obtain ⟨i, hi, e⟩ := sa_age z
        rw [hq] at e
        exact h2 ⟨i, hi, x_inj hD hk (hg i hi) e⟩
/-- into the present age -/
theorem put_now {A : Nat → Prop} {y : Nat → ClassId} {c : Nat → Nat} {J : XJ} (hD : va_D A (cellsX y c J)) {j : Nat} (hj : j < 32) (u : AJ) (k : Nat) (q : Nat × va_E) (h : (cellsX y c (J.nw' u))[k]? = some q) :
    (∃ i : Nat, (ageW y (nowA c) u ++ ageW y (polA c j) (J.pl j))[i]? = some q) ∨ ((cellsX y c J)[k]? = some q ∧ ¬ SA (ageW y (nowA c) J.nw ++ ageW y (polA c j) (J.pl j)) q.1) := by
  obtain ⟨hk, hq⟩ := cellsX_c h
  by_cases h1 : 7 ≤ k ∧ k < 12
  · left
    obtain ⟨i, hi, rfl⟩ : ∃ i, i < 5 ∧ k = 7 + i := ⟨k - 7, by omega, by omega⟩
    have h2 := now_at (y := y) (c := c) (J := J.nw' u) hi
    rw [h] at h2
    exact app_l h2.symm
  · have hold : (cellsX y c J)[k]? = some q := by
      rcases Nat.lt_or_ge k 39 with z | z
      · rw [← h]
        have e : ∀ k, k < 39 → ¬ (7 ≤ k ∧ k < 12) → (headX y c J)[k]? = (headX y c (J.nw' u))[k]? := by
          intro k hk hn
          rcases Nat.lt_or_ge k 7 with q | q
          · match k, q with
            | 0, _ => rfl
            | 1, _ => rfl
            | 2, _ => rfl
            | 3, _ => rfl
            | 4, _ => rfl
            | 5, _ => rfl
            | 6, _ => rfl
          · obtain ⟨i, rfl⟩ : ∃ i, k = 12 + i := ⟨k - 12, by omega⟩
            have e2 : ∀ J : XJ, (headX y c J)[12 + i]? = ((headX y c J).drop 12)[i]? := fun J => by rw [List.getElem?_drop]
            rw [e2, e2]
            rfl
        rw [cellsX_split, cellsX_split, List.getElem?_append_left (by rw [headX_len]; exact z), List.getElem?_append_left (by rw [headX_len]; exact z)]
        exact e k z h1
      · obtain ⟨i, rfl⟩ : ∃ i, k = 39 + i := ⟨k - 39, by omega⟩
        rw [cellsX_hi (by omega)] at h ⊢
        exact h
    by_cases h2 : 39 + 5 * j ≤ k ∧ k < 39 + 5 * j + 5
    · left
      obtain ⟨i, hi, rfl⟩ : ∃ i, i < 5 ∧ k = 39 + (5 * j + i) := ⟨k - 39 - 5 * j, by omega, by omega⟩
      rw [pol_at hj hi] at hold
      exact app_r hold
    · right
      refine ⟨hold, fun hs => ?_⟩
      rcases sa_app hs with z | z
      · obtain ⟨i, hi, e⟩ := sa_age z
        rw [hq] at e
        have := x_inj hD hk (show 7 + i < 199 by omega) e
        exact h1 ⟨by omega, by omega⟩
      · obtain ⟨i, hi, e⟩ := sa_age z
        rw [hq] at e
        have := x_inj hD hk (show 39 + 5 * j + i < 199 by omega) e
        exact h2 ⟨by omega, by omega⟩
