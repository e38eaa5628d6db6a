/-! copies of ages inside the component's world -/
set_option maxRecDepth 100000
theorem sub_D {A : Nat → Prop} {ws wc : va_W} (hD : va_D A ws) (pos : Nat → Nat) (hp : ∀ (k : Nat) (q : Nat × va_E), wc[k]? = some q → ws[pos k]? = some q) (hi : ∀ k k', k < wc.length → k' < wc.length → pos k = pos k' → k = k') : va_D (SA wc) wc := by
  refine ⟨fun i j x z h1 h2 h3 => ?_, fun k q h => ⟨k, q.2, h⟩⟩
  have e := hD.1 _ _ x z (hp i x h1) (hp j z h2) h3
  exact hi i j (List.getElem?_eq_some_iff.mp h1).1 (List.getElem?_eq_some_iff.mp h2).1 e
theorem app_at {w1 w2 : va_W} (l1 : w1.length = 5) {k : Nat} {q : Nat × va_E} (h : (w1 ++ w2)[k]? = some q) : (k < 5 ∧ w1[k]? = some q) ∨ (5 ≤ k ∧ w2[k - 5]? = some q) := by
  rcases Nat.lt_or_ge k 5 with z | z
  · rw [List.getElem?_append_left (by rw [l1]; exact z)] at h
    exact Or.inl ⟨z, h⟩
  · rw [List.getElem?_append_right (by rw [l1]; exact z), l1] at h
    exact Or.inr ⟨z, h⟩
theorem two_D {A : Nat → Prop} {ws w1 w2 : va_W} (hD : va_D A ws) (f g : Nat → Nat) (h1 : ∀ i, i < 5 → ws[f i]? = w1[i]?) (h2 : ∀ i, i < 5 → ws[g i]? = w2[i]?) (l1 : w1.length = 5) (l2 : w2.length = 5) (hf : ∀ i i', i < 5 → i' < 5 → f i = f i' → i = i') (hg : ∀ i i', i < 5 → i' < 5 → g i = g i' → i = i') (hfg : ∀ i i', i < 5 → i' < 5 → f i ≠ g i') : va_D (SA (w1 ++ w2)) (w1 ++ w2) := by
  refine sub_D hD (fun k => if k < 5 then f k else g (k - 5)) (fun k q h => ?_) (fun k k' hk hk' e => ?_)
  · rcases app_at l1 h with ⟨z, h⟩ | ⟨z, h⟩
    · rw [if_pos z, h1 k z]; exact h
    · have : k - 5 < 5 := by have z := (List.getElem?_eq_some_iff.mp h).1; rw [l2] at z; exact z
      rw [if_neg (by omega), h2 _ this]; exact h
  · rw [List.length_append, l1, l2] at hk hk'
    by_cases z : k < 5 <;> by_cases z' : k' < 5
    · rw [if_pos z, if_pos z'] at e; exact hf k k' z z' e
    · rw [if_pos z, if_neg z'] at e; exact absurd e (hfg k (k' - 5) z (by omega))
    · rw [if_neg z, if_pos z'] at e; exact absurd e.symm (hfg k' (k - 5) z' (by omega))
    · rw [if_neg z, if_neg z'] at e
      have := hg (k - 5) (k' - 5) (by omega) (by omega) e
      omega
section XC
variable {p : Program} {l : Launch} {e : Env} {R : Room} {s : State} {m : MethodId} {args : Array Value} {below : List Frame} {meth : Method} {cd : Code} {H : Heap} {locs : List Loc} {cells slots : Nat} {Q : State → Prop}
variable {pc : Nat} {ls : Array Slot} {rest st0 : List Value} {D : va_G} {y : Nat → ClassId} {A : Nat → Prop} {H0 : Heap} {mc ms : Nat} {aa : Array Value} {c : Nat → Nat} {J : XJ}
abbrev runCopy (p : Program) (l : Launch) (e : Env) (R : Room) (s : State) (m : MethodId) (args : Array Value) (below : List Frame) (meth : Method) (cd : Code) (H : Heap) (locs : List Loc) (cells slots mc ms : Nat) (D : va_G) (y : Nat → ClassId) (pc : Nat) (ls : Array Slot) (st0 rest : List Value) (aa : Array Value) (a b : Nat → Nat) (X B : AJ) : Prop :=
  PreV s H RX3 (a 0) (va_Pc [.ref (a 0), .ref (b 0)] (WH D y (SA (ageW y a X ++ ageW y b B)) (ageW y a X ++ ageW y b B))) [.ref (b 0)] →
  va_Run p l e R s m args below meth cd H locs cells slots mc ms (F0 m pc ls st0) rest (va_Qv (fun u => CopyOf u B) (fun u t => WH D y (SA (ageW y a X ++ ageW y b B)) (ageW y a u ++ ageW y b B) t) (SA (ageW y a X ++ ageW y b B)) aa) (SA (ageW y a X ++ ageW y b B))
theorem x_copyPN {j : Nat} (hj : j < 32) (hC : CX D y s) (hP : va_P D kcl (cellsX y c J) H) (hD : va_D A (cellsX y c J)) (hS : va_S A H0 H locs) (hrun : runCopy p l e R s m args below meth cd H locs cells slots mc ms D y pc ls st0 rest aa (polA c j) (nowA c) (J.pl j) J.nw)
    (kk : ∀ (u : AJ) (H : Heap) (locs : List Loc), CopyOf u J.nw → va_P D kcl (cellsX y c (J.pl' (va_up J.pl j u))) H → va_D A (cellsX y c (J.pl' (va_up J.pl j u))) → va_S A H0 H locs → W p l e R s m args below meth cd H locs (cells + mc) (slots + ms) Q (F0 m (pc + 3) ls rest)) : W p l e R s m args below meth cd H locs cells slots Q (F0 m pc ls st0) := by
  have hsub := sub_ages (y := y) (c := c) (J := J) (w1 := ageW y (polA c j) (J.pl j)) (w2 := ageW y (nowA c) J.nw) (f := fun i => 39 + (5 * j + i)) (g := fun i => 7 + i) (fun i hi => pol_at hj hi) (fun i hi => now_at hi) rfl rfl
  have hPc : va_P D kcl (ageW y (polA c j) (J.pl j) ++ ageW y (nowA c) J.nw) H := fun k q h => by
    obtain ⟨i, hi⟩ := hsub k q h
    exact hP i q hi
  have hDc := two_D hD (w1 := ageW y (polA c j) (J.pl j)) (w2 := ageW y (nowA c) J.nw) (fun i => 39 + (5 * j + i)) (fun i => 7 + i) (fun i hi => pol_at hj hi) (fun i hi => now_at hi) rfl rfl (fun i i' _ _ h => by omega) (fun i i' _ _ h => by omega) (fun i i' _ _ h => by omega)
  refine h_callW (hrun (preVH hC hPc hDc 3 0 rfl rfl)) hP hD hS hsub (ws' := fun u => cellsX y c (J.pl' (va_up J.pl j u))) (fun u hu k q h => ?_) (fun u => by rw [cellsX_adr, cellsX_adr]) kk
  exact put_pool hD hj (g := fun i => 7 + i) (fun i hi => by omega) (fun i i' _ _ => by omega) (fun i hi => now_at hi) u k q h
theorem x_copyNP {j : Nat} (hj : j < 32) (hC : CX D y s) (hP : va_P D kcl (cellsX y c J) H) (hD : va_D A (cellsX y c J)) (hS : va_S A H0 H locs) (hrun : runCopy p l e R s m args below meth cd H locs cells slots mc ms D y pc ls st0 rest aa (nowA c) (polA c j) J.nw (J.pl j))
    (kk : ∀ (u : AJ) (H : Heap) (locs : List Loc), CopyOf u (J.pl j) → va_P D kcl (cellsX y c (J.nw' u)) H → va_D A (cellsX y c (J.nw' u)) → va_S A H0 H locs → W p l e R s m args below meth cd H locs (cells + mc) (slots + ms) Q (F0 m (pc + 3) ls rest)) : W p l e R s m args below meth cd H locs cells slots Q (F0 m pc ls st0) := by
  have hsub := sub_ages (y := y) (c := c) (J := J) (w1 := ageW y (nowA c) J.nw) (w2 := ageW y (polA c j) (J.pl j)) (f := fun i => 7 + i) (g := fun i => 39 + (5 * j + i)) (fun i hi => now_at hi) (fun i hi => pol_at hj hi) rfl rfl
  have hPc : va_P D kcl (ageW y (nowA c) J.nw ++ ageW y (polA c j) (J.pl j)) H := fun k q h => by
    obtain ⟨i, hi⟩ := hsub k q h
    exact hP i q hi
  have hDc := two_D hD (w1 := ageW y (nowA c) J.nw) (w2 := ageW y (polA c j) (J.pl j)) (fun i => 7 + i) (fun i => 39 + (5 * j + i)) (fun i hi => now_at hi) (fun i hi => pol_at hj hi) rfl rfl (fun i i' _ _ h => by omega) (fun i i' _ _ h => by omega) (fun i i' _ _ h => by omega)
  refine h_callW (hrun (preVH hC hPc hDc 3 0 rfl rfl)) hP hD hS hsub (ws' := fun u => cellsX y c (J.nw' u)) (fun u hu k q h => ?_) (fun u => by rw [cellsX_adr, cellsX_adr]) kk
  exact put_now hD hj u k q h
theorem x_copyPP {j i0 : Nat} (hj : j < 32) (hi0 : i0 < 32) (hne : j ≠ i0) (hC : CX D y s) (hP : va_P D kcl (cellsX y c J) H) (hD : va_D A (cellsX y c J)) (hS : va_S A H0 H locs) (hrun : runCopy p l e R s m args below meth cd H locs cells slots mc ms D y pc ls st0 rest aa (polA c j) (polA c i0) (J.pl j) (J.pl i0))
    (kk : ∀ (u : AJ) (H : Heap) (locs : List Loc), CopyOf u (J.pl i0) → va_P D kcl (cellsX y c (J.pl' (va_up J.pl j u))) H → va_D A (cellsX y c (J.pl' (va_up J.pl j u))) → va_S A H0 H locs → W p l e R s m args below meth cd H locs (cells + mc) (slots + ms) Q (F0 m (pc + 3) ls rest)) : W p l e R s m args below meth cd H locs cells slots Q (F0 m pc ls st0) := by
  have hsub := sub_ages (y := y) (c := c) (J := J) (w1 := ageW y (polA c j) (J.pl j)) (w2 := ageW y (polA c i0) (J.pl i0)) (f := fun i => 39 + (5 * j + i)) (g := fun i => 39 + (5 * i0 + i)) (fun i hi => pol_at hj hi) (fun i hi => pol_at hi0 hi) rfl rfl
  have hPc : va_P D kcl (ageW y (polA c j) (J.pl j) ++ ageW y (polA c i0) (J.pl i0)) H := fun k q h => by
    obtain ⟨i, hi⟩ := hsub k q h
    exact hP i q hi
  have hDc := two_D hD (w1 := ageW y (polA c j) (J.pl j)) (w2 := ageW y (polA c i0) (J.pl i0)) (fun i => 39 + (5 * j + i)) (fun i => 39 + (5 * i0 + i)) (fun i hi => pol_at hj hi) (fun i hi => pol_at hi0 hi) rfl rfl (fun i i' _ _ h => by omega) (fun i i' _ _ h => by omega) (fun i i' _ _ h => by omega)
  refine h_callW (hrun (preVH hC hPc hDc 3 0 rfl rfl)) hP hD hS hsub (ws' := fun u => cellsX y c (J.pl' (va_up J.pl j u))) (fun u hu k q h => ?_) (fun u => by rw [cellsX_adr, cellsX_adr]) kk
  exact put_pool hD hj (g := fun i => 39 + 5 * i0 + i) (fun i hi => by omega) (fun i i' _ _ => by omega) (fun i hi => by show (cellsX y c J)[39 + 5 * i0 + i]? = _; rw [Nat.add_assoc]; exact pol_at hi0 hi) u k q h
end XC
