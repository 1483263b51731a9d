/-! the log that is written -/
section LG2
variable {D : va_G} {dA : Nat → ClassId} {A B : Nat → Prop} {f f' : Nat → Int32} {g : Nat → Option Nat} {ae n : Nat} {H0 H : Heap} {locs : List Loc} {U : State}
def NtH (D : va_G) (f : Nat → Int32) (g : Nat → Option Nat) (n : Nat) (H : Heap) : Prop := ∀ k, k < n → ∃ y : Nat, g k = some y ∧ va_at D vwCl (y, .inr (6, ntE f (k + 1))) H
theorem NtA.nh (h : NtA D A f g n H) : NtH D f g n H := fun k hk => by
  obtain ⟨y, h1, -, h3⟩ := h k hk
  exact ⟨y, h1, h3⟩
theorem NtH.congr (h : NtH D f g n H) (he : ∀ r, 1 ≤ r → r ≤ n → ∀ w, w < 5 → rcf f' r w = rcf f r w) : NtH D f' g n H := fun k hk => by
  obtain ⟨y, h1, h3⟩ := h k hk
  exact ⟨y, h1, by rw [ntE_congr (he (k + 1) (by omega) (by omega))]; exact h3⟩
theorem NtH.cutg {g' : Nat → Option Nat} {n' : Nat} (h : NtH D f g n H) (hn : n' ≤ n) (hg : ∀ k, k < n' → g' k = g k) : NtH D f g' n' H := fun k hk => by
  obtain ⟨y, h1, h3⟩ := h k (by omega)
  exact ⟨y, (hg k hk).trans h1, h3⟩
theorem NtA.cutg {g' : Nat → Option Nat} {n' : Nat} (h : NtA D A f g n H) (hn : n' ≤ n) (hg : ∀ k, k < n' → g' k = g k) : NtA D A f g' n' H := fun k hk => by
  obtain ⟨y, h1, h2, h3⟩ := h k (by omega)
  exact ⟨y, (hg k hk).trans h1, h2, h3⟩
theorem NtA.later {H1 : Heap} {locs1 : List Loc} (hA : ∀ q : Nat, H0.size ≤ q → A q) (h : NtA D A f g n H) (hS : va_S A H0 H locs) (hS1 : va_S A H0 H1 locs1) : NtA D A f g n H1 := fun k hk => by
  obtain ⟨y, h1, h2, h3⟩ := h k hk
  have hy : y < H0.size := by
    rcases Nat.lt_or_ge y H0.size with q | q
    · exact q
    · exact absurd (hA y q) h2
  exact ⟨y, h1, h2, h3.kept ((hS1.2.1 y hy h2).trans (hS.2.1 y hy h2).symm)⟩
/-- a note is none of the other cells -/
def no6 (q : Nat × va_E) : Bool := match q.2 with
  | .inl _ => true
  | .inr o => decide (o.1 ≠ 6 ∧ o.1 < 14)
def arOk (dA : Nat → ClassId) (q : Nat × va_E) : Prop := match q.2 with
  | .inl x => x.1 = dA 0 ∨ x.1 = dA 1 ∨ x.1 = dA 2 ∨ x.1 = dA 3 ∨ x.1 = dA 4
  | .inr _ => True
theorem arOk.ix {q : Nat × va_E} (h : arOk dA q) {a : Nat} {x : ClassId × vp_A} (e : q = (a, .inl x)) : ∃ (t : Nat) (ty : FieldType), (tyL dA)[t]? = some (x.1, ty) := by
  subst e
  rcases (show x.1 = dA 0 ∨ x.1 = dA 1 ∨ x.1 = dA 2 ∨ x.1 = dA 3 ∨ x.1 = dA 4 from h) with h | h | h | h | h
  · exact ⟨0, _, by rw [h]; rfl⟩
  · exact ⟨1, _, by rw [h]; rfl⟩
  · exact ⟨2, _, by rw [h]; rfl⟩
  · exact ⟨3, _, by rw [h]; rfl⟩
  · exact ⟨4, _, by rw [h]; rfl⟩
theorem vp_cc (cA : ClassId) (a : vp_A) : (vp_cell cA a).cls = cA := by
  obtain ⟨n, f | f | f | f | f⟩ := a <;> rfl
theorem cl_apart (hK : va_K D vwCl (tyL dA) U) {i : Nat} (hi : i ≠ 6) (h14 : i < 14) : D.1 i ≠ D.1 6 := by
  intro e
  obtain ⟨q, hq⟩ : ∃ q, vwCl[i]? = some q := ⟨_, List.getElem?_eq_getElem (show i < vwCl.length from h14)⟩
  obtain ⟨-, h1, -⟩ := hK.1 i q hq
  obtain ⟨-, h2, -⟩ := hK.1 6 _ (show vwCl[6]? = some (RX6, TX6, 5) from rfl)
  rw [e] at h1
  obtain ⟨k1, hk1, hn1⟩ := Vm.findClass_spec h1
  obtain ⟨k2, hk2, hn2⟩ := Vm.findClass_spec h2
  cases hk1.symm.trans hk2
  have hne : q.1 = RX6 := hn1.symm.trans hn2
  have key : ∀ i, i < 14 → i ≠ 6 → (vwCl.map Prod.fst)[i]? ≠ some RX6 := by decide
  exact key i h14 hi (by rw [List.getElem?_map, hq]; exact congrArg some hne)
theorem nt_out (hK : va_K D vwCl (tyL dA) U) {ws : va_W} (hP : va_P D vwCl ws H) (h6 : ws.all no6 = true) (hty : ∀ q ∈ ws, arOk dA q) {y : Nat} {vs : List Value} (hat : va_at D vwCl (y, .inr (6, vs)) H) : ¬ va_A ws H.size y := by
  have hy := hat.lt
  obtain ⟨r, -, cell, g1, g2, g3, -⟩ := hat
  rintro (⟨k, e, hk⟩ | h)
  · have hq := hP k _ hk
    have hn := List.all_eq_true.mp h6 _ (List.mem_of_getElem? hk)
    match e, hq, hk, hn with
    | .inl x, hq, hk, hn =>
      obtain ⟨t, ty, ht⟩ := arOk.ix (hty _ (List.mem_of_getElem? hk)) rfl
      have e1 : cell = vp_cell x.1 x.2 := Option.some.inj (g1.symm.trans hq)
      obtain ⟨-, h2, k2, hk2, hkind⟩ := hK.1 6 _ (show vwCl[6]? = some (RX6, TX6, 5) from rfl)
      obtain ⟨-, kA, hkA, comp, hkk⟩ := (hK.2 t _ ht).1 0 (fun _ => .null)
      have e2 : cell.cls = x.1 := by rw [e1]; exact vp_cc _ _
      rw [g2] at e2
      rw [e2] at hk2
      cases hk2.symm.trans hkA
      rw [hkind] at hkk
      cases hkk
    | .inr o, hq, hk, hn =>
      obtain ⟨r', -, cell', g1', g2', -⟩ := hq
      have e1 : cell = cell' := Option.some.inj (g1.symm.trans g1')
      have h := of_decide_eq_true (show decide (o.1 ≠ 6 ∧ o.1 < 14) = true from hn)
      exact cl_apart hK h.1 h.2 (by rw [← g2', ← e1]; exact g2)
  · exact absurd h (Nat.not_le.2 hy)
theorem cpy_lt {n k : Nat} (h : k < n) : va_cpy g (fun _ => none) 0 0 n k = g k := by
  unfold va_cpy
  rw [if_pos (by omega)]
  congr 1
  omega
theorem b01 (P : Prop) [Decidable P] : nI (if P then 1 else 0) = 0 ∨ nI (if P then 1 else 0) = 1 := by
  split
  · exact Or.inr rfl
  · exact Or.inl rfl
/-- the log's array: the shared empty one, or an own one -/
def LogT (dA : Nat → ClassId) (a0 ae n : Nat) (g : Nat → Option Nat) (xq : Nat) (xe : va_E) : Prop := (n = 0 ∧ ae = a0 ∧ ∃ v, xe = .inl (dA 0, v)) ∨ (ae = xq ∧ ∃ cap, n ≤ cap ∧ cap ≤ 10000 ∧ 1 ≤ cap ∧ xe = .inl (dA 3, cap, .inr (.inr (.inr (.inr g)))))
theorem LogT.ok {a0 xq : Nat} {xe : va_E} (h : LogT dA a0 ae n g xq xe) : no6 (xq, xe) = true ∧ arOk dA (xq, xe) := by
  rcases h with ⟨-, -, v, rfl⟩ | ⟨-, cap, -, -, -, rfl⟩
  · exact ⟨rfl, Or.inl rfl⟩
  · exact ⟨rfl, Or.inr (Or.inr (Or.inr (Or.inl rfl)))⟩
/-- the notes and one more -/
def NtP (D : va_G) (B : Nat → Prop) (f : Nat → Int32) (g : Nat → Option Nat) (n : Nat) (vs : List Value) (H : Heap) : Prop := NtA D B f g n H ∧ ∃ y : Nat, g n = some y ∧ ¬ B y ∧ va_at D vwCl (y, .inr (6, vs)) H
theorem NtA.keptB (h : NtA D (fun q => A q ∨ B q) f g n H0) (hS : va_S A H0 H locs) : NtA D B f g n H := fun k hk => by
  obtain ⟨y, h1, h2, h3⟩ := h k hk
  exact ⟨y, h1, fun z => h2 (Or.inr z), h3.kept (hS.2.1 y h3.lt (fun z => h2 (Or.inl z)))⟩
theorem NtP.one {vs : List Value} (h : NtP D B f g n vs H) (he : ∀ r, 1 ≤ r → r ≤ n → ∀ w, w < 5 → rcf f' r w = rcf f r w) (hv : vs = ntE f' (n + 1)) : NtA D B f' g (n + 1) H := by
  intro k hk
  by_cases e : k = n
  · subst e
    obtain ⟨-, y, h1, h2, h3⟩ := h
    exact ⟨y, h1, h2, by rw [← hv]; exact h3⟩
  · exact (h.1.congr he) k (by omega)
end LG2
theorem tk_ap {f : Nat → Int32} (hI : InvA f) {b : Nat} (hb : b < 2) (x : Nat) : apN (tickK f x) b ≤ rcN f b := by
  obtain ⟨-, -, h, -⟩ := InvA_ap (InvA_tickK hI x) hb
  have e : rcN (tickK f x) b = rcN f b := by
    show (tickK f x (12 + 3 * b + 0)).toNatClampNeg = _
    rw [tickK_s f x _ (by omega) (by omega) (by omega)]; rfl
  rw [e] at h; exact h
theorem add_sub_l (a b : Int32) : a + b - a = b := by rw [Int32.add_comm]; exact Int32.add_sub_cancel b a
section ZNG
variable {p : Program} {l : Launch} {e : Env} {R : Room} {s : State} {m : MethodId} {args : Array Value} {below : List Frame} {meth : Method} {c : Code} {H : Heap} {locs : List Loc} {cells slots : Nat} {Q : State → Prop}
variable {cc : ByteArray} {pc : Nat} {ls : Array Slot} {rest : List Value} {A : Nat → Prop} {own C : String} {index : Nat} {Ts : List Cond}
/-- a new object, at a fresh place -/
theorem z_newG {D : va_G} {cl : List vw_C} {tys : List (ClassId × FieldType)} {wz : va_W} {H0 : Heap} (hexec : p.tables.exec = Jvm.exec) (hb : c.code = cc) {T : u_T} {N ci : Nat} (hts : ∀ w ∈ Ts, w.before args s = true) (hin : ∀ w ∈ u_ws C T N, w ∈ Ts) (ty : Nat → FieldType) (hty : ∀ k, k < N → parseFieldDescriptor (T k).2.2.1 = some (ty k)) (hown : s.vm.findClass own = some m.cls) (hcl : (Cond.classLink own index C).before args s = true) (hinst : (Cond.instantiable C N).before args s = true) (hini : (Cond.initialized C).before args s = true)
    (hK : va_K D cl tys s) (hP : va_P D cl wz H) (hD : va_D A wz) (hS : va_S A H0 H locs) (hA : ∀ q, H0.size ≤ q → A q) (hc : cl[ci]? = some (C, T, N)) {fs : List Value} (hfs : ∀ j, j < N → defaultValue (ty j) = vp_V fs j) (hcells : cells + 1 ≤ R.cells) (hslots : slots + N ≤ R.slots) (hdg : decode cc pc = .ok (.new index, 3))
    (kk : ∀ (q : Nat) (H1 : Heap), va_P D cl (wz ++ [(q, .inr (ci, fs))]) H1 → va_D A (wz ++ [(q, .inr (ci, fs))]) → va_S A H0 H1 locs → H0.size ≤ q →
      W p l e R s m args below meth c H1 locs (cells + 1) (slots + N) Q (F0 m (pc + 3) ls (.ref q :: rest))) : W p l e R s m args below meth c H locs cells slots Q (F0 m pc ls rest) := by
  have hKn := hK.1 ci _ hc
  refine W.newcK hexec hb hown hcl hinst hini rfl hdg hcells hslots hKn.2.1 rfl fun H1 kC hkC e1 z1 o1 => ?_
  have hk : ∀ (k : Nat) (x : Nat × va_E), wz[k]? = some x → H1[x.1]? = H[x.1]? := fun k x hx => o1 x.1 ((hP k x hx).lt)
  refine kk H.size H1 ((hP.kept hk).app (fun k x hx => ?_)) (hD.push hP rfl (hA _ hS.1)) ⟨Nat.le_trans hS.1 (by omega), fun x h1 h2 => (o1 x (Nat.lt_of_lt_of_le h1 hS.1)).trans (hS.2.1 x h1 h2), hS.2.2⟩ hS.1
  have hz : k < 1 := (List.getElem?_eq_some_iff.mp hx).1
  rw [show k = 0 by omega] at hx
  cases hx
  exact ⟨_, hc, (u_born ty hts hin hKn hkC e1 hty).to hfs⟩
end ZNG
