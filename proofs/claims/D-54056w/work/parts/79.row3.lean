/-! rows for the store's making -/
def slF (f : Nat → Int32) : Nat → Int32 := fun j => if f (9 + j) = 0 then -1 else f (9 + j)
def seF (f : Nat → Int32) : Nat → Int32 := fun j => f (7 + j)
theorem cpy3 {f g : Nat → Int32} {j : Nat} (h : j < 3) : va_cpy f g 0 0 3 j = f j := by
  unfold va_cpy
  rw [if_pos (by omega)]
  congr 1
  omega
theorem zFz_add {D : va_G} {A : Nat → Prop} {ws : va_W} {H : Heap} {x : Nat × va_E} (h : zFz D A ws H) (h1 : va_at D vwCl x H) (h2 : ¬ A x.1) : zFz D A (ws ++ [x]) H := by
  refine ⟨h.1.app (va_P1 h1), fun k q hk => ?_⟩
  rcases List.mem_append.mp (List.mem_of_getElem? hk) with hm | hm
  · obtain ⟨i, hi⟩ := List.getElem?_of_mem hm
    exact h.2 i q hi
  · rw [List.mem_singleton.mp hm]; exact h2
theorem z_irecv {D : va_G} {dA : Nat → ClassId} {ad : Nat → Nat} {A : Nat → Prop} {s : State} {H0 H : Heap} (hC : Cx D dA ad A s H0) {ws : va_W} (hP : va_P D vwCl ws H) {q0 a n : Nat} {g : Nat → Int32} (he : ws[q0]? = some (a, .inl (dA 0, n, .inl g))) : ∃ cell : Cell, H[a]? = some cell ∧ cell.vm.isStatics = false ∧ s.vm.findClass "[I" = some cell.cls :=
  ⟨_, hP q0 _ he, rfl, (hC.K.2 0 (dA 0, .int) rfl).2⟩
theorem z_stbany {D : va_G} {dA : Nat → ClassId} {ad : Nat → Nat} {A : Nat → Prop} {s : State} {H0 H : Heap} (hC : Cx D dA ad A s H0) {ws : va_W} (hP : va_P D vwCl ws H) {q0 y : Nat} {vs : List Value} (he : ws[q0]? = some (y, .inr (3, vs))) : va_Any "FencedStandbys$Standby" s H y :=
  va_rAny hC.K hP he (ci := 3) rfl (fun comp c0 h1 h2 => by cases h1.symm.trans h2; exact va_asg _ _)
section ZI
variable {p : Program} {l : Launch} {e : Env} {R : Room} {s : State} {m : MethodId} {args : Array Value} {below : List Frame} {meth : Method} {c : Code} {H : Heap} {locs : List Loc} {cells slots : Nat} {Q : State → Prop}
variable {cc : ByteArray} {pc : Nat} {ls : Array Slot} {rest : List Value} {D : va_G} {dA : Nat → ClassId} {ad : Nat → Nat} {A : Nat → Prop}
/-- ints from a frozen array to an own one -/
theorem z_copyi {own : String} {index : Nat} {ws wz : va_W} {a0 a q1 q0 N nS nD : Nat} {f g : Nat → Int32}
    (hx : p.tables.exec = Jvm.exec) (hb : c.code = cc) (hml : c.maxLocals = ls.size) (hown : s.vm.findClass own = some m.cls) (hlink : (Cond.methodLink own index arraycopyName).before args s = true) (hnat : (Cond.native arraycopyName).before args s = true) (hstat : (Cond.static arraycopyName).before args s = true) (hini : (Cond.initialized "java/lang/System").before args s = true)
    (hC : Cx D dA ad A s s.heap) (hP : va_P D vwCl ws H) (hD : va_D A ws) (hS : va_S A s.heap H locs) (hZ : va_P D vwCl wz H) (hsrc : wz[q0]? = some (a0, .inl (dA 0, nS, .inl f))) (he : ws[q1]? = some (a, .inl (dA 0, nD, .inl g)))
    (h4 : N ≤ nS) (h5 : N ≤ nD) (hN : N < 2 ^ 31)
    (hframes : 1 ≤ R.frames) (hlocals : (rest.map fun v => v.category).sum + (nativeFrameWords "java/lang/System" "arraycopy" 5 + 11) ≤ R.locals) (hdg : decode cc pc = .ok (.invokestatic index, 3))
    (kk : ∀ (H1 : Heap) (locs1 : List Loc), va_P D vwCl (ws.set q1 (a, .inl (dA 0, nD, .inl (va_cpy f g 0 0 N)))) H1 → va_D A (ws.set q1 (a, .inl (dA 0, nD, .inl (va_cpy f g 0 0 N)))) → va_S A s.heap H1 locs1 → W p l e R s m args below meth c H1 locs1 cells slots Q (F0 m (pc + 3) ls rest)) :
    W p l e R s m args below meth c H locs cells slots Q (F0 m pc ls (.int (nI N) :: .int (nI 0) :: .ref a :: .int (nI 0) :: .ref a0 :: rest)) := by
  obtain ⟨k3, comp, hk3, hkk3⟩ := z_kind hC.K (t := 0) (q := (dA 0, .int)) rfl
  refine z_copyA (fun z => .int z) hx hb hml hown hlink hnat hstat hini hP hD hS (hZ q0 _ hsrc) he (vp_cell_i _ _ _) (x2 := (nD, .inl (va_cpy f g 0 0 N))) (vp_cell_i _ _ _) hk3 hk3 hkk3 hkk3 rfl h4 h5 hN ?_ hframes hlocals hdg kk
  intro T vm₁ hT hal i hi
  exact ⟨rfl, trivial⟩
/-- a copy of a frozen array of ints -/
theorem z_clonei {own : String} {index : Nat} {ws wz : va_W} {a q0 n : Nat} {g : Nat → Int32}
    (hx : p.tables.exec = Jvm.exec) (hb : c.code = cc) (hml : c.maxLocals = ls.size) (hown : s.vm.findClass own = some m.cls) (hlink : (Cond.methodLink own index ⟨"[I", "clone", "()Ljava/lang/Object;"⟩).before args s = true) (hts : ∀ w ∈ lw_all, w.before args s = true)
    (hC : Cx D dA ad A s s.heap) (hP : va_P D vwCl ws H) (hD : va_D A ws) (hS : va_S A s.heap H locs) (hA : ∀ q, s.heap.size ≤ q → A q) (hZ : zFz D A wz s.heap) (hsrc : wz[q0]? = some (a, .inl (dA 0, n, .inl g)))
    (hframes : 1 ≤ R.frames) (hlocals : (rest.map fun v => v.category).sum + 14 ≤ R.locals) (hcells : cells + 1 ≤ R.cells) (hslots : slots + n ≤ R.slots) (hdg : decode cc pc = .ok (.invokevirtual index, 3))
    (kk : ∀ (q : Nat) (H1 : Heap), va_P D vwCl (ws ++ [(q, .inl (dA 0, n, .inl g))]) H1 → va_D A (ws ++ [(q, .inl (dA 0, n, .inl g))]) → va_S A s.heap H1 locs →
      W p l e R s m args below meth c H1 locs (cells + 1) (slots + n) Q (F0 m (pc + 3) ls (.ref q :: rest))) : W p l e R s m args below meth c H locs cells slots Q (F0 m pc ls (.ref a :: rest)) := by
  have hnm : s.vm.findClass "[I" = some (dA 0) := (hC.K.2 0 (dA 0, .int) rfl).2
  have hat : H[a]? = some (vp_cell (dA 0) (n, .inl g)) := hZ.at hS q0 _ hsrc
  have hna : ¬ A a := hZ.out hsrc
  have hP' : va_P D vwCl ([(a, .inl (dA 0, n, .inl g))] ++ ws) H := (va_P1 (show va_at D vwCl (a, .inl (dA 0, n, .inl g)) H from hat)).app hP
  have hD' : va_D (fun q => A q ∨ q = a) ([(a, .inl (dA 0, n, .inl g))] ++ ws) := by
    refine va_D.app ⟨fun i j p q hi hj _ => ?_, fun k q hk => ?_⟩ (hD.weaken (fun _ _ _ h => Or.inl h)) (fun i j p q h1 h2 e => ?_)
    · have := (List.getElem?_eq_some_iff.mp hi).1
      have := (List.getElem?_eq_some_iff.mp hj).1
      simp at *
      omega
    · have : k = 0 := by have := (List.getElem?_eq_some_iff.mp hk).1; simp at this; omega
      subst this; cases hk; exact Or.inr rfl
    · have : i = 0 := by have := (List.getElem?_eq_some_iff.mp h1).1; simp at this; omega
      subst this; cases h1
      exact hna (by have := hD.2 j q h2; rw [← e] at this; exact this)
  refine va_clone hx hb hml hown hlink (hts _ q449) (hts _ q436) (hts _ q437) (hts _ q450) (Cx.nC hC (t := ("[I", "java/lang/Cloneable")) (List.mem_of_getElem? (i := 24) rfl)) hC.K hP' hD' (A := fun q => A q ∨ q = a) (H0 := s.heap) ⟨hS.1, fun q h1 h2 => hS.2.1 q h1 (fun z => h2 (Or.inl z)), fun q hq => Or.inl (hS.2.2 q hq)⟩ (fun q hq => Or.inl (hA q hq)) 0 0 (x := (n, .inl g)) (ty := .int) rfl rfl hnm (fun i v hv => ?_) hframes hlocals hcells hslots hdg (fun q H1 _ hP1 hD1 hS1 => ?_)
  · have hv' : (Array.ofFn (n := n) fun j => Value.int (g j))[i]? = some v := hv
    obtain ⟨h, e⟩ := Array.getElem?_eq_some_iff.mp hv'
    rw [Array.getElem_ofFn] at e
    rw [← e]; rfl
  · have hsub : ∀ (k : Nat) (y : Nat × va_E), (ws ++ [(q, .inl (dA 0, n, .inl g))])[k]? = some y → ([(a, .inl (dA 0, n, .inl g))] ++ ws ++ [(q, .inl (dA 0, n, .inl g))])[k + 1]? = some y := fun k y hk => hk
    refine kk q H1 (fun k y hk => hP1 (k + 1) y (hsub k y hk)) ⟨fun i j x y hi hj e => by have := hD1.1 _ _ _ _ (hsub i x hi) (hsub j y hj) e; omega, fun k y hk => ?_⟩ ⟨hS1.1, fun z h1 h2 => ?_, hS.2.2⟩
    · rcases hD1.2 _ _ (hsub k y hk) with h | h
      · exact h
      · have := hD1.1 0 (k + 1) (a, .inl (dA 0, n, .inl g)) y rfl (hsub k y hk) h.symm
        omega
    · by_cases e : z = a
      · subst e
        exact (hP1 0 (z, .inl (dA 0, n, .inl g)) rfl).trans (hZ.1 q0 _ hsrc).symm
      · exact hS1.2.1 z h1 (fun h => h.elim h2 e)
end ZI
