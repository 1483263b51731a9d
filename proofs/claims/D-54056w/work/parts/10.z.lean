/-! the z-layer: one context for all contracts, calls that say it, loops -/
abbrev vwCl : List vw_C := [(RX0, TX0, 3), (RX1, TX1, 10), (RX2, TX2, 1), (RX3, TX3, 4), (RX4, TX4, 14), (RX5, TX5, 7), (RX6, TX6, 5), (RX7, TX7, 7), (RX8, TX8, 8), (RJ2, TJ2, 3), (RJ3, TJ3, 3), (RJ4, TJ4, 3), (RJ6, TJ6, 4), (RJ9, TJ9, 4)]
abbrev tyL (dA : Nat → ClassId) : List (ClassId × FieldType) := [(dA 0, .int), (dA 1, .long), (dA 2, .byte), (dA 3, .object "java/lang/Object"), (dA 4, .object "FencedStandbys$Standby")]
def bI (P : Prop) [Decidable P] : Int32 := if P then 1 else 0
theorem bI_1 {P : Prop} [Decidable P] : ¬ bI P = 0 ↔ P := by
  unfold bI
  by_cases h : P
  · rw [if_pos h]; exact ⟨fun _ => h, fun _ => by decide⟩
  · rw [if_neg h]; exact ⟨fun q => absurd rfl q, fun q => absurd q h⟩
theorem bI_0 {P : Prop} [Decidable P] : bI P = 0 ↔ ¬ P := by
  unfold bI
  by_cases h : P
  · rw [if_pos h]; exact ⟨fun q => absurd q (by decide), fun q => absurd h q⟩
  · rw [if_neg h]; exact ⟨fun _ => h, fun _ => rfl⟩
theorem bI_t {P : Prop} [Decidable P] (h : P) : bI P = 1 := if_pos h
theorem bI_f {P : Prop} [Decidable P] (h : ¬ P) : bI P = 0 := if_neg h
theorem bI_e {P Q : Prop} [Decidable P] [Decidable Q] (h : P ↔ Q) : bI P = bI Q := by
  by_cases q : P
  · rw [bI_t q, bI_t (h.1 q)]
  · rw [bI_f q, bI_f (mt h.2 q)]
theorem bI_nar {P : Prop} [Decidable P] : narrow .boolean (.int (bI P)) = .int (bI P) := by
  by_cases q : P
  · rw [bI_t q]; rfl
  · rw [bI_f q]; rfl
theorem bI_fit {P : Prop} [Decidable P] : fits .boolean (.int (bI P)) = true := by
  by_cases q : P
  · rw [bI_t q]; rfl
  · rw [bI_f q]; rfl
theorem nI_sub1 {n k : Nat} (h : k ≤ n) : nI n + Int32.ofInt (-(k : Int)) = nI (n - k) := by
  have e : Int32.ofInt (-(k : Int)) = 0 - nI k := by
    apply Int32.toBitVec_inj.1
    simp [nI]
  have := pk_sub (a := n) (b := k) h
  rw [← this, e]
  apply Int32.toBitVec_inj.1
  simp [nI, BitVec.sub_eq_add_neg]
def zF (A1 : Nat → Prop) (H H1 : Heap) : Prop := H.size ≤ H1.size ∧ ∀ q : Nat, q < H.size → ¬ A1 q → H1[q]? = H[q]?
theorem va_P.ro {D : va_G} {cl : List vw_C} {ws : va_W} {H H1 : Heap} (hF : zF (fun q => H.size ≤ q) H H1) (h : va_P D cl ws H) : va_P D cl ws H1 :=
  h.kept (fun k q hk => hF.2 q.1 (h k q hk).lt (Nat.not_le.mpr (h k q hk).lt))
theorem va_D.same {A : Nat → Prop} {ws ws' : va_W} (h : va_D A ws) (e : ws.map Prod.fst = ws'.map Prod.fst) : va_D A ws' := by
  have key : ∀ (k : Nat) (q : Nat × va_E), ws'[k]? = some q → ∃ q0, ws[k]? = some q0 ∧ q0.1 = q.1 := by
    intro k q hk
    have h1 : (ws'.map Prod.fst)[k]? = some q.1 := by rw [List.getElem?_map, hk]; rfl
    rw [← e, List.getElem?_map] at h1
    cases h2 : ws[k]? with
    | none => rw [h2] at h1; cases h1
    | some q0 => rw [h2] at h1; exact ⟨q0, rfl, Option.some.inj h1⟩
  refine ⟨fun i j x y hi hj hxy => ?_, fun k q hk => ?_⟩
  · obtain ⟨x0, h1, h2⟩ := key i x hi
    obtain ⟨y0, h3, h4⟩ := key j y hj
    exact h.1 i j x0 y0 h1 h3 (h2.trans (hxy.trans h4.symm))
  · obtain ⟨q0, h1, h2⟩ := key k q hk
    rw [← h2]
    exact h.2 k q0 h1
theorem arrV_eq {cA : ClassId} {n : Nat} {g g' : Nat → Value} (h : ∀ j, j < n → g j = g' j) : arrV cA n g = arrV cA n g' := by
  unfold arrV
  congr 2
  funext j
  exact h j.val j.isLt
/-- an int array's contents count below its length alone -/
theorem va_P.arr {D : va_G} {cl : List vw_C} {ws : va_W} {H : Heap} (h : va_P D cl ws H) (q0 : Nat) {a n : Nat} {cA : ClassId} {f f' : Nat → Int32} (he : ws[q0]? = some (a, .inl (cA, n, .inl f))) (hf : ∀ j, j < n → f j = f' j) : va_P D cl (ws.set q0 (a, .inl (cA, n, .inl f'))) H := by
  have hl := (List.getElem?_eq_some_iff.mp he).1
  intro k q hk
  by_cases hkp : k = q0
  · subst hkp
    rw [List.getElem?_set_self hl] at hk
    cases hk
    have h1 := h k _ he
    show H[a]? = some (vp_cell cA (n, .inl f'))
    rw [vp_cell_i, ← arrV_eq (g := fun j => .int (f j)) (fun j hj => by rw [hf j hj])]
    exact h1
  · rw [List.getElem?_set_ne (Ne.symm hkp)] at hk
    exact h k q hk
/-- all that comes from a heap on may be changed, at its start as later -/
theorem hA_up {A : Nat → Prop} {H0 H : Heap} {locs : List Loc} (hA : ∀ q : Nat, H0.size ≤ q → A q) (hS : va_S A H0 H locs) : ∀ q : Nat, H.size ≤ q → A q := fun q h => hA q (Nat.le_trans hS.1 h)
theorem va_Pnil {D : va_G} {cl : List vw_C} {H : Heap} : va_P D cl [] H := fun k q h => by simp at h
theorem va_Dnil {A : Nat → Prop} : va_D A [] := ⟨fun i j p q h => by simp at h, fun k q h => by simp at h⟩
/-- a call's part doesn't hold the other cells -/
theorem va_out {A0 : Nat → Prop} {D : va_G} {cl : List vw_C} {ws wc : va_W} {H : Heap} (hP : va_P D cl ws H) (hD : va_D A0 ws) {q0 : Nat} {q : Nat × va_E} (hq : ws[q0]? = some q) (isC : List Nat) (hC : isC.map (fun i => ws[i]?) = wc.map some) (hn : q0 ∉ isC) : ¬ va_A wc H.size q.1 := by
  rintro (⟨k, e, h⟩ | h)
  · have h1 : (isC.map (fun i => ws[i]?))[k]? = some (some (q.1, e)) := by rw [hC, List.getElem?_map, h]; rfl
    rw [List.getElem?_map] at h1
    cases hi : isC[k]? with
    | none => rw [hi] at h1; cases h1
    | some i =>
      rw [hi] at h1
      have h2 : ws[i]? = some (q.1, e) := Option.some.inj h1
      have h3 := hD.1 q0 i q (q.1, e) hq h2 rfl
      subst h3
      exact hn (List.mem_of_getElem? hi)
  · have := (hP q0 q hq).lt
    omega
/-- tables' words that aren't in lw_all -/
abbrev nwFt : Type := String × Nat × String × String × String × String
abbrev nwFc (t : nwFt) : Cond := .fieldLinkNest t.1 t.2.1 t.2.2.1 t.2.2.2.1 t.2.2.2.2.1 t.2.2.2.2.2
def nwF : List nwFt := [("java/util/ArrayList$Itr", 28, "java/util/ArrayList", "size", "I", "java/util/ArrayList"), ("FencedStandbys", 199, "FencedStandbys$Standby", "received", "I", "FencedStandbys"), ("FencedStandbys", 150, "FencedStandbys$Standby", "applied", "I", "FencedStandbys"), ("FencedStandbys", 202, "FencedStandbys$Standby", "gaps", "Ljava/util/BitSet;", "FencedStandbys"), ("FencedStandbys", 214, "FencedStandbys$Standby", "isAstray", "Z", "FencedStandbys"), ("FencedStandbys", 131, "FencedStandbys$Store", "log", "LFencedStandbys$Journal;", "FencedStandbys"), ("FencedStandbys", 162, "FencedStandbys$Store", "slots", "[I", "FencedStandbys"), ("FencedStandbys", 141, "FencedStandbys$Store", "standbys", "[LFencedStandbys$Standby;", "FencedStandbys"), ("FencedStandbys", 228, "FencedStandbys$Store", "settings", "[I", "FencedStandbys"), ("FencedStandbys", 190, "FencedStandbys$Store", "tick", "I", "FencedStandbys"), ("FencedStandbys", 238, "FencedStandbys$Store", "timeline", "I", "FencedStandbys"), ("FencedStandbys", 241, "FencedStandbys$Store", "transactions", "I", "FencedStandbys"), ("FencedStandbys", 244, "FencedStandbys$Store", "lostCommits", "I", "FencedStandbys"), ("FencedStandbys", 247, "FencedStandbys$Store", "lostRecords", "I", "FencedStandbys"), ("FencedStandbys", 250, "FencedStandbys$Store", "applied", "I", "FencedStandbys"), ("FencedStandbys", 117, "FencedStandbys$Refused", "code", "I", "FencedStandbys"), ("FencedStandbys", 193, "FencedStandbys$Note", "tick", "I", "FencedStandbys"), ("FencedStandbys", 293, "FencedStandbys$Reader", "trial", "LFencedStandbys$Store;", "FencedStandbys"), ("FencedStandbys", 296, "FencedStandbys$Reader", "many", "I", "FencedStandbys"), ("FencedStandbys", 285, "FencedStandbys$Fault", "begins", "I", "FencedStandbys"), ("FencedStandbys$Store", 129, "FencedStandbys$Standby", "received", "I", "FencedStandbys"), ("FencedStandbys$Store", 137, "FencedStandbys$Standby", "applied", "I", "FencedStandbys"), ("FencedStandbys$Store", 138, "FencedStandbys$Standby", "gaps", "Ljava/util/BitSet;", "FencedStandbys"), ("FencedStandbys$Store", 121, "FencedStandbys$Standby", "isAstray", "Z", "FencedStandbys"), ("FencedStandbys$Store", 84, "FencedStandbys$Note", "kind", "I", "FencedStandbys"), ("FencedStandbys$Store", 87, "FencedStandbys$Note", "transaction", "I", "FencedStandbys"), ("FencedStandbys$Store", 78, "FencedStandbys$Note", "key", "I", "FencedStandbys"), ("FencedStandbys$Store", 81, "FencedStandbys$Note", "value", "I", "FencedStandbys"), ("FencedStandbys$Reader", 25, "FencedStandbys", "store", "LFencedStandbys$Store;", "FencedStandbys"), ("FencedStandbys$Reader", 13, "FencedStandbys", "text", "Ljava/lang/StringBuilder;", "FencedStandbys"), ("FencedStandbys$Fault", 26, "FencedStandbys$Refused", "code", "I", "FencedStandbys")]
abbrev nwMt : Type := String × Nat × MethodName × String
abbrev nwMc (t : nwMt) : Cond := .methodLinkNest t.1 t.2.1 t.2.2.1 t.2.2.2
def nwM : List nwMt := [("FencedStandbys", 277, ⟨"FencedStandbys$Reader", "<init>", "(LFencedStandbys;)V"⟩, "FencedStandbys"), ("FencedStandbys$Reader", 57, ⟨"FencedStandbys", "isBetween", "(JJJ)Z"⟩, "FencedStandbys"), ("FencedStandbys$Reader", 97, ⟨"FencedStandbys", "done", "(LFencedStandbys$Store;C[I)I"⟩, "FencedStandbys")]
def nwC : List (String × String) := [("java/lang/Throwable", "java/lang/Object"), ("java/util/ArrayList", "java/lang/Object"), ("java/util/BitSet", "java/lang/Object"), ("java/util/ArrayDeque", "java/lang/Object"), ("java/lang/StringBuilder", "java/lang/CharSequence"), ("java/lang/StringBuilder", "java/lang/Object"), ("java/lang/String", "java/lang/CharSequence"), ("java/lang/String", "java/lang/Object"), ("java/util/ArrayList$Itr", "java/util/Iterator"), ("java/util/ArrayList$Itr", "java/lang/Object"), ("FencedStandbys", "java/lang/Object"), ("FencedStandbys$Store", "java/lang/Object"), ("FencedStandbys$Journal", "java/lang/Object"), ("FencedStandbys$Standby", "java/lang/Object"), ("FencedStandbysModel", "java/lang/Object"), ("FencedStandbys$Refused", "FencedStandbys$Refused"), ("FencedStandbys$Refused", "java/lang/Object"), ("FencedStandbys$Note", "FencedStandbys$Written"), ("FencedStandbys$Note", "java/lang/Object"), ("FencedStandbys$Reader", "java/lang/Object"), ("FencedStandbys$Fault", "FencedStandbys$Fault"), ("FencedStandbys$Fault", "java/lang/Object"), ("[B", "java/lang/Cloneable"), ("[B", "java/lang/Object"), ("[I", "java/lang/Cloneable"), ("[I", "java/lang/Object"), ("[J", "java/lang/Cloneable"), ("[J", "java/lang/Object"), ("[LFencedStandbys$Standby;", "java/lang/Object"), ("[Ljava/lang/Object;", "java/lang/Object")]
def nwI : List (String × MethodName × MethodName) := [("java/lang/StringBuilder", ⟨"java/lang/CharSequence", "length", "()I"⟩, ⟨"java/lang/StringBuilder", "length", "()I"⟩), ("java/lang/StringBuilder", ⟨"java/lang/CharSequence", "charAt", "(I)C"⟩, ⟨"java/lang/StringBuilder", "charAt", "(I)C"⟩), ("java/lang/String", ⟨"java/lang/CharSequence", "length", "()I"⟩, ⟨"java/lang/String", "length", "()I"⟩), ("java/lang/String", ⟨"java/lang/CharSequence", "charAt", "(I)C"⟩, ⟨"java/lang/String", "charAt", "(I)C"⟩), ("java/util/ArrayList$Itr", ⟨"java/util/Iterator", "hasNext", "()Z"⟩, ⟨"java/util/ArrayList$Itr", "hasNext", "()Z"⟩), ("java/util/ArrayList$Itr", ⟨"java/util/Iterator", "next", "()Ljava/lang/Object;"⟩, ⟨"java/util/ArrayList$Itr", "next", "()Ljava/lang/Object;"⟩), ("FencedStandbys$Note", ⟨"FencedStandbys$Written", "writtenIn", "()I"⟩, ⟨"FencedStandbys$Note", "writtenIn", "()I"⟩), ("FencedStandbys$Note", ⟨"FencedStandbys$Written", "isAgo", "(II)Z"⟩, ⟨"FencedStandbys$Written", "isAgo", "(II)Z"⟩)]
def nwS : List (String × Nat × String × Nat) := [("FencedStandbys", 52, "slrg", 0), ("FencedStandbys$Refused", 1, "refused", 1), ("FencedStandbys$Reader", 80, "ocapst", 2), ("FencedStandbys$Reader", 88, ",=", 3), ("FencedStandbys$Reader", 90, ",", 4), ("FencedStandbys$Reader", 92, "", 5), ("FencedStandbys$Fault", 3, "fault", 6)]
theorem va_tabD {C : String} {x y : MethodName} {A A' : Array Value} {u U : State} (h : u.vm = U.vm) (hb : (Cond.landsInDefault C x y).before A u = true) : (Cond.landsInDefault C x y).before A' U = true := by
  have e1 : ∀ a b c, U.methodFound? a b c = u.methodFound? a b c := fun a b c => by unfold State.methodFound?; rw [h]
  have e2 : ∀ z, U.methodNamed? z = u.methodNamed? z := fun z => by unfold State.methodNamed?; rw [h]
  simp only [Cond.before, Cond.holds, Cond.value] at hb ⊢
  rw [e1, e2, ← h]
  exact hb
def vx_L (C n d : String) (A : Nat → Prop) (U : State) (H : Heap) : Prop := ∃ (c : ClassId) (k : Class) (i : Nat) (f : Field) (a : Nat) (cell : Cell), U.vm.findClass C = some c ∧ U.fieldFound? C n d = some (c, k, i, f) ∧ f.isStatic = true ∧ k.statics = some a ∧ H[a]? = some cell ∧ cell.vm.isStatics = true ∧ cell.cls = c ∧ f.slot < cell.slots.size ∧ k.staticTypes[f.slot]? = some f.type ∧ ¬ A a
theorem vx_L.moved {C n d : String} {A : Nat → Prop} {u U : State} {H : Heap} (hvm : u.vm.Alike U.vm) (h : vx_L C n d A u H) : vx_L C n d A U H := by
  obtain ⟨c, k, i, f, a, cell, h1, h2, h3, h4, h5, h6, h7, h8, h9, h10⟩ := h
  obtain ⟨k', hi', he⟩ := State.fieldFound?_setVm hvm h2
  exact ⟨c, k', i, f, a, cell, by rw [hvm.findClass]; exact h1, hi', h3, by rw [he]; exact h4, h5, h6, h7, h8, by rw [he]; exact h9, h10⟩
theorem vx_L.kept {C n d : String} {A : Nat → Prop} {U : State} {H H1 : Heap} (h : vx_L C n d A U H) (hq : ∀ a : Nat, a < H.size → ¬ A a → H1[a]? = H[a]?) : vx_L C n d A U H1 := by
  obtain ⟨c, k, i, f, a, cell, h1, h2, h3, h4, h5, h6, h7, h8, h9, h10⟩ := h
  exact ⟨c, k, i, f, a, cell, h1, h2, h3, h4, by rw [hq a (Array.getElem?_eq_some_iff.mp h5).1 h10]; exact h5, h6, h7, h8, h9, h10⟩
theorem vx_L.narrow {C n d : String} {A B : Nat → Prop} {U : State} {H : Heap} (h : vx_L C n d A U H) (hAB : ∀ q, B q → A q) : vx_L C n d B U H := by
  obtain ⟨c, k, i, f, a, cell, h1, h2, h3, h4, h5, h6, h7, h8, h9, h10⟩ := h
  exact ⟨c, k, i, f, a, cell, h1, h2, h3, h4, h5, h6, h7, h8, h9, fun z => h10 (hAB _ z)⟩
theorem vx_L.word {C n d : String} {A : Nat → Prop} {s : State} {args : Array Value} (h : vx_L C n d A s s.heap) : (Cond.laysStatic C n d).before args s = true := by
  obtain ⟨c, k, i, f, a, cell, h1, h2, h3, h4, h5, h6, h7, h8, h9, -⟩ := h
  show (Cond.laysStatic C n d).holds args s none s [] = true
  exact Cond.laysStatic_of h1 h2 h3 h4 h5 h6 h7 h8 h9
/-- .. and what it holds: null or some reference -/
def vx_Zq (C n d : String) (A : Nat → Prop) (U : State) (H : Heap) : Prop := va_Zq C n d A U H ∧ vx_L C n d A U H
theorem vx_Zq.moved {C n d : String} {A : Nat → Prop} {u U : State} {H : Heap} (hvm : u.vm.Alike U.vm) (h : vx_Zq C n d A u H) : vx_Zq C n d A U H := ⟨va_Zq.moved hvm h.1, vx_L.moved hvm h.2⟩
theorem vx_Zq.kept {C n d : String} {A : Nat → Prop} {U : State} {H H1 : Heap} (h : vx_Zq C n d A U H) (hq : ∀ a : Nat, a < H.size → ¬ A a → H1[a]? = H[a]?) : vx_Zq C n d A U H1 := ⟨va_Zq.kept h.1 hq, vx_L.kept h.2 hq⟩
theorem vx_Zq.narrow {C n d : String} {A B : Nat → Prop} {U : State} {H : Heap} (h : vx_Zq C n d A U H) (hAB : ∀ q, B q → A q) : vx_Zq C n d B U H := ⟨va_Zq.narrow h.1 hAB, vx_L.narrow h.2 hAB⟩
theorem vx_Zqof {args : Array Value} {s : State} {C n d : String} {A : Nat → Prop} (hl : (Cond.laysStatic C n d).before args s = true) (hini : (Cond.initialized C).before args s = true) (h : (Cond.isRef (.static C n d)).before args s = true) (hA : ∀ a : Nat, a < s.heap.size → ¬ A a) : vx_Zq C n d A s s.heap := by
  refine ⟨va_Zqof hl hini h hA, ?_⟩
  obtain ⟨c, k, i, f, a, cell, h1, h2, h3, h4, h5, h6, h7, h8, h9⟩ := Cond.laysStatic_spec hl
  exact ⟨c, k, i, f, a, cell, h1, h2, h3, h4, h5, h6, h7, h8, h9, hA a (Array.getElem?_eq_some_iff.mp h5).1⟩

def nwX : List Cond := [.selects RJ6 yJ5_ensureCapacityInternal yJ5_ensureCapacityInternal, .selects RJ6 yJ5_newCapacity yJ5_newCapacity]
theorem nwX_ok : ∀ w ∈ nwX, (w.onTables && w.keeps) = true := by decide +kernel
def Tb (D : va_G) (dA : Nat → ClassId) (ad : Nat → Nat) (U : State) : Prop := va_K D vwCl (tyL dA) U ∧ (∀ t ∈ nwF, va_Nw (nwFc t) U) ∧ (∀ t ∈ nwM, va_Nw (nwMc t) U) ∧ (∀ t ∈ nwC, va_Nw (.castable t.1 t.2) U) ∧ va_AO "java/lang/Object" U ∧ va_AO "FencedStandbys$Standby" U ∧ (∀ t ∈ nwI, va_Fw t.1 t.2.1 t.2.2 U) ∧ va_Dc U ∧ va_Mi "[Ljava/lang/Object;" (ad 9) U ∧ (∀ t ∈ nwS, vk_R t.1 t.2.1 t.2.2.1 (ad (10 + t.2.2.2)) U) ∧ (∀ w ∈ nwX, va_Nw w U) ∧ va_Nw (.landsInDefault RX6 yX9_isAgo yX9_isAgo) U
def sLen : List Nat := [4, 7, 6, 2, 1, 0, 5]
def sByt : List (List Int32) := [[115, 108, 114, 103], [114, 101, 102, 117, 115, 101, 100], [111, 99, 97, 112, 115, 116], [44, 61], [44], [], [102, 97, 117, 108, 116]]
def Hx (ad : Nat → Nat) (A : Nat → Prop) (U : State) (H : Heap) : Prop := va_Z "java/util/ArrayList" "DEFAULTCAPACITY_EMPTY_ELEMENTDATA" "[Ljava/lang/Object;" (.ref (ad 0)) A U H ∧ va_T (.object "java/lang/Object") (ad 0) 0 (fun _ => .null) A U H ∧ va_Z "java/util/BitSet" "$assertionsDisabled" "Z" (.int 1) A U H ∧ va_Z "java/lang/String" "COMPACT_STRINGS" "Z" (.int 1) A U H ∧ vx_Zq "java/lang/Throwable" "UNASSIGNED_STACK" "[Ljava/lang/StackTraceElement;" A U H ∧ vx_Zq "java/lang/Throwable" "SUPPRESSED_SENTINEL" "Ljava/util/List;" A U H ∧ va_Zq "jdk/internal/util/Preconditions" "SIOOBE_FORMATTER" "Ljava/util/function/BiFunction;" A U H ∧ vk_S 7 sLen sByt (fun i => ad (10 + i)) (fun i => ad (20 + i)) A U H
def Cx (D : va_G) (dA : Nat → ClassId) (ad : Nat → Nat) (A : Nat → Prop) (U : State) (H : Heap) : Prop := Tb D dA ad U ∧ Hx ad A U H
section CX
variable {D : va_G} {dA : Nat → ClassId} {ad : Nat → Nat} {A B : Nat → Prop} {U u s : State} {H H1 : Heap}
theorem Cx.K (h : Cx D dA ad A U H) : va_K D vwCl (tyL dA) U := h.1.1
theorem Cx.nF (h : Cx D dA ad A U H) {t : nwFt} (ht : t ∈ nwF) {args : Array Value} : (nwFc t).before args U = true := va_Nw.use rfl (h.1.2.1 t ht)
theorem Cx.nFw (h : Cx D dA ad A U H) {t : nwFt} (ht : t ∈ nwF) : va_Nw (nwFc t) U := h.1.2.1 t ht
theorem Cx.nM (h : Cx D dA ad A U H) {t : nwMt} (ht : t ∈ nwM) : va_Nw (nwMc t) U := h.1.2.2.1 t ht
theorem Cx.nC (h : Cx D dA ad A U H) {t : String × String} (ht : t ∈ nwC) : va_Nw (.castable t.1 t.2) U := h.1.2.2.2.1 t ht
theorem Cx.aoO (h : Cx D dA ad A U H) : va_AO "java/lang/Object" U := h.1.2.2.2.2.1
theorem Cx.aoS (h : Cx D dA ad A U H) : va_AO "FencedStandbys$Standby" U := h.1.2.2.2.2.2.1
theorem Cx.nI (h : Cx D dA ad A U H) {t : String × MethodName × MethodName} (ht : t ∈ nwI) : va_Fw t.1 t.2.1 t.2.2 U := h.1.2.2.2.2.2.2.1 t ht
theorem Cx.dc (h : Cx D dA ad A U H) : va_Dc U := h.1.2.2.2.2.2.2.2.1
theorem Cx.mi (h : Cx D dA ad A U H) : va_Mi "[Ljava/lang/Object;" (ad 9) U := h.1.2.2.2.2.2.2.2.2.1
theorem Cx.nS (h : Cx D dA ad A U H) {t : String × Nat × String × Nat} (ht : t ∈ nwS) : vk_R t.1 t.2.1 t.2.2.1 (ad (10 + t.2.2.2)) U := h.1.2.2.2.2.2.2.2.2.2.1 t ht
theorem Cx.nX (h : Cx D dA ad A U H) {w : Cond} (hw : w ∈ nwX) : va_Nw w U := h.1.2.2.2.2.2.2.2.2.2.2.1 w hw
theorem Cx.nD (h : Cx D dA ad A U H) : va_Nw (.landsInDefault RX6 yX9_isAgo yX9_isAgo) U := h.1.2.2.2.2.2.2.2.2.2.2.2
theorem Cx.zE (h : Cx D dA ad A U H) : va_Z "java/util/ArrayList" "DEFAULTCAPACITY_EMPTY_ELEMENTDATA" "[Ljava/lang/Object;" (.ref (ad 0)) A U H := h.2.1
theorem Cx.tE (h : Cx D dA ad A U H) : va_T (.object "java/lang/Object") (ad 0) 0 (fun _ => .null) A U H := h.2.2.1
theorem Cx.zB (h : Cx D dA ad A U H) : va_Z "java/util/BitSet" "$assertionsDisabled" "Z" (.int 1) A U H := h.2.2.2.1
theorem Cx.zC (h : Cx D dA ad A U H) : va_Z "java/lang/String" "COMPACT_STRINGS" "Z" (.int 1) A U H := h.2.2.2.2.1
theorem Cx.zU (h : Cx D dA ad A U H) : va_Zq "java/lang/Throwable" "UNASSIGNED_STACK" "[Ljava/lang/StackTraceElement;" A U H := h.2.2.2.2.2.1.1
theorem Cx.lU (h : Cx D dA ad A U H) : vx_L "java/lang/Throwable" "UNASSIGNED_STACK" "[Ljava/lang/StackTraceElement;" A U H := h.2.2.2.2.2.1.2
theorem Cx.zN (h : Cx D dA ad A U H) : va_Zq "java/lang/Throwable" "SUPPRESSED_SENTINEL" "Ljava/util/List;" A U H := h.2.2.2.2.2.2.1.1
theorem Cx.lN (h : Cx D dA ad A U H) : vx_L "java/lang/Throwable" "SUPPRESSED_SENTINEL" "Ljava/util/List;" A U H := h.2.2.2.2.2.2.1.2
theorem Cx.zF (h : Cx D dA ad A U H) : va_Zq "jdk/internal/util/Preconditions" "SIOOBE_FORMATTER" "Ljava/util/function/BiFunction;" A U H := h.2.2.2.2.2.2.2.1
theorem Cx.st (h : Cx D dA ad A U H) : vk_S 7 sLen sByt (fun i => ad (10 + i)) (fun i => ad (20 + i)) A U H := h.2.2.2.2.2.2.2.2
theorem nwI_ok : ∀ t ∈ nwI, t.2.1.cls ≠ "java/lang/invoke/MethodHandle" ∧ t.2.1.cls ≠ "java/lang/invoke/VarHandle" := by decide +kernel
theorem Tb.warm (hW : s.WarmedH U.vm) (h : Tb D dA ad s) : Tb D dA ad U := by
  obtain ⟨h1, h2, h3, h4, h5, h6, h7, h8, h9, h10, h11, h12⟩ := h
  exact ⟨va_K.moved hW.alike h1, fun t ht => va_Nw.warmF hW (h2 t ht), fun t ht => va_Nw.warmM hW (h3 t ht), fun t ht => va_Nw.warmC hW (h4 t ht), va_AO.moved hW.alike h5, va_AO.moved hW.alike h6, fun t ht => va_Fw.moved (nwI_ok t ht) hW.alike (h7 t ht), va_Dc.moved hW.alike h8, va_Mi.moved hW.alike h9, fun t ht => vk_R.warm hW (h10 t ht), fun w hw => word_at hW (Or.inl (nwX_ok w hw)) (h11 w hw), va_tabD (u := s.setVm U.vm) rfl (((Cond.landsInDefault_setVm hW.alike (State.methodFound?_setVm hW.alike _ _ _)).trans h12 : (Cond.landsInDefault RX6 yX9_isAgo yX9_isAgo).before #[] (s.setVm U.vm) = true))⟩
theorem Tb.same (hv : u.vm = U.vm) (h : Tb D dA ad u) : Tb D dA ad U := by
  obtain ⟨h1, h2, h3, h4, h5, h6, h7, h8, h9, h10, h11, h12⟩ := h
  have ha : u.vm.Alike U.vm := by rw [hv]; exact Vm.Alike.refl _
  exact ⟨va_K.moved ha h1, fun t ht => va_Nw.same rfl hv (h2 t ht), fun t ht => va_Nw.same rfl hv (h3 t ht), fun t ht => va_Nw.same rfl hv (h4 t ht), va_AO.moved ha h5, va_AO.moved ha h6, fun t ht => va_Fw.moved (nwI_ok t ht) ha (h7 t ht), va_Dc.moved ha h8, va_Mi.moved ha h9, fun t ht => vk_R.same hv.symm (h10 t ht), fun w hw => va_Nw.same (Bool.and_eq_true _ _ |>.mp (nwX_ok w hw)).1 hv (h11 w hw), va_tabD hv h12⟩
theorem Hx.moved (hvm : u.vm.Alike U.vm) (h : Hx ad A u H) : Hx ad A U H := by
  obtain ⟨h1, h2, h3, h4, h5, h6, h7, h8⟩ := h
  exact ⟨va_Z.moved hvm h1, va_T.moved hvm h2, va_Z.moved hvm h3, va_Z.moved hvm h4, vx_Zq.moved hvm h5, vx_Zq.moved hvm h6, va_Zq.moved hvm h7, vk_S.moved hvm h8⟩
theorem Hx.kept (h : Hx ad A U H) (hq : ∀ a : Nat, a < H.size → ¬ A a → H1[a]? = H[a]?) : Hx ad A U H1 := by
  obtain ⟨h1, h2, h3, h4, h5, h6, h7, h8⟩ := h
  exact ⟨h1.kept hq, h2.kept hq, h3.kept hq, h4.kept hq, h5.kept hq, h6.kept hq, h7.kept hq, h8.kept hq⟩
theorem Hx.narrow (h : Hx ad A U H) (hAB : ∀ q, B q → A q) : Hx ad B U H := by
  obtain ⟨h1, h2, h3, h4, h5, h6, h7, h8⟩ := h
  exact ⟨h1.narrow hAB, h2.narrow hAB, h3.narrow hAB, h4.narrow hAB, h5.narrow hAB, h6.narrow hAB, h7.narrow hAB, h8.narrow hAB⟩
end CX
/-- a method's start: the context, and what it asks of the heap -/
def zP (D : va_G) (dA : Nat → ClassId) (ad : Nat → Nat) (A : Nat → Prop) (sz : Nat) (P : Heap → Prop) (U : State) : Prop := U.heap.size = sz ∧ Cx D dA ad A U U.heap ∧ P U.heap
abbrev zQi (Post : Int32 → Heap → Prop) (A : Nat → Prop) : Array Value → State → Outcome → State → Prop := va_Qi (fun (r u : Int32) => r = u) (fun u t => Post u t.heap) A
abbrev zQl (Post : Int64 → Heap → Prop) (A : Nat → Prop) : Array Value → State → Outcome → State → Prop := va_Ql (fun (r u : Int64) => r = u) (fun u t => Post u t.heap) A
abbrev zQv (Post : Heap → Prop) (A : Nat → Prop) : Array Value → State → Outcome → State → Prop := va_Qv (fun _ : Unit => True) (fun _ t => Post t.heap) A
abbrev zQr (Post : Nat → Heap → Prop) (A : Nat → Prop) : Array Value → State → Outcome → State → Prop := va_Qr (fun _ : Unit => True) (fun _ a t => Post a t.heap) A
abbrev zQq (Post : Option Nat → Heap → Prop) (A : Nat → Prop) : Array Value → State → Outcome → State → Prop := va_Qq (fun (r u : Option Nat) => r = u) (fun u t => Post u t.heap) A
theorem zP_blind {D : va_G} {dA : Nat → ClassId} {ad : Nat → Nat} {A : Nat → Prop} {sz : Nat} {P : Heap → Prop} {av : List Value} : FrameBlind (va_Pc av (zP D dA ad A sz P)) := fun a U g mk q => by
  obtain ⟨q0, q1, qC, qP⟩ := q
  exact ⟨q0, q1, ⟨Tb.same (u := U) (U := U.calling g mk a) rfl qC.1, Hx.moved (u := U) (U := U.calling g mk a) (Vm.Alike.refl U.vm) qC.2⟩, qP⟩
/-- cells that a method doesn't change -/
def zFz (D : va_G) (A : Nat → Prop) (ws : va_W) (H : Heap) : Prop := va_P D vwCl ws H ∧ ∀ (k : Nat) (q : Nat × va_E), ws[k]? = some q → ¬ A q.1
theorem zFz_mk {D : va_G} {A : Nat → Prop} {ws : va_W} {H : Heap} (h : va_P D vwCl ws H) (h2 : ∀ (k : Nat) (q : Nat × va_E), ws[k]? = some q → ¬ A q.1) : zFz D A ws H := ⟨h, h2⟩
theorem zFz_ro {D : va_G} {ws : va_W} {H : Heap} (h : va_P D vwCl ws H) : zFz D (fun q => H.size ≤ q) ws H := ⟨h, fun k q hk => Nat.not_le.mpr (h k q hk).lt⟩
theorem zFz.at {D : va_G} {A : Nat → Prop} {ws : va_W} {H0 H : Heap} {locs : List Loc} (h : zFz D A ws H0) (hS : va_S A H0 H locs) : va_P D vwCl ws H := h.1.kept (fun k q hk => hS.2.1 q.1 (h.1 k q hk).lt (h.2 k q hk))
theorem zFz.out {D : va_G} {A : Nat → Prop} {ws : va_W} {H : Heap} (h : zFz D A ws H) {q0 : Nat} {q : Nat × va_E} (hq : ws[q0]? = some q) : ¬ A q.1 := h.2 q0 q hq
/-- new cells behind a call -/
theorem z_addnew {A : Nat → Prop} {D : va_G} {cl : List vw_C} {ws nc : va_W} {H H1 : Heap} (hA : ∀ q : Nat, H.size ≤ q → A q) (hP : va_P D cl ws H) (hD : va_D A ws) (hF : zF (fun q => H.size ≤ q) H H1) (hP1 : va_P D cl nc H1) (hD1 : va_D (fun q => H.size ≤ q) nc) : va_P D cl (ws ++ nc) H1 ∧ va_D A (ws ++ nc) :=
  ⟨(va_P.ro hF hP).app hP1, va_D.app hD (hD1.weaken (fun _ _ _ h => hA _ h)) (fun i j p q h1 h2 e => by
    have a1 := (hP i p h1).lt
    have a2 : H.size ≤ q.1 := hD1.2 j q h2
    rw [← e] at a2
    omega)⟩
section ZK
variable {p : Program} {l : Launch} {e : Env} {R : Room} {s : State} {m : MethodId} {args : Array Value} {below : List Frame} {meth : Method} {c : Code} {H : Heap} {locs : List Loc} {cells slots : Nat} {Q : State → Prop}
variable {cc : ByteArray} {pc : Nat} {ls : Array Slot} {rest st0 : List Value} {D : va_G} {dA : Nat → ClassId} {ad : Nat → Nat} {A A0 A1 : Nat → Prop}
theorem lv_tope {x : Int32} (y : Int32) (h : x = y) (k : W p l e R s m args below meth c H locs cells slots Q (F0 m pc ls (.int y :: rest))) : W p l e R s m args below meth c H locs cells slots Q (F0 m pc ls (.int x :: rest)) := by
  rw [h]; exact k
theorem lv_topel {x : Int64} (y : Int64) (h : x = y) (k : W p l e R s m args below meth c H locs cells slots Q (F0 m pc ls (.long y :: rest))) : W p l e R s m args below meth c H locs cells slots Q (F0 m pc ls (.long x :: rest)) := by
  rw [h]; exact k
theorem lv_topv {x : Value} (y : Value) (h : x = y) (k : W p l e R s m args below meth c H locs cells slots Q (F0 m pc ls (y :: rest))) : W p l e R s m args below meth c H locs cells slots Q (F0 m pc ls (x :: rest)) := by
  rw [h]; exact k
theorem z_pre {As : List Value} {P : Heap → Prop} (hC : Cx D dA ad A0 s s.heap) (hS : va_S A0 s.heap H locs) (hA : ∀ q, A1 q → A0 q) (hP : P H) : ∀ U : State, U.heap = H → s.WarmedH U.vm → va_Pc As (zP D dA ad A1 H.size P) As.toArray U := by
  intro U hU hW
  refine ⟨rfl, by rw [hU], ⟨hC.1.warm hW, ?_⟩, by rw [hU]; exact hP⟩
  rw [hU]
  exact Hx.moved hW.alike ((hC.2.kept (fun a h1 h2 => hS.2.1 a h1 h2)).narrow hA)
variable {y : MethodName} {bytes : ByteArray} {maxL nL mc ms n index : Nat} {ret : Option FieldType} {ws : List Cond} {rm : Room} {Ts : List Cond} {own C : String} {b : Addr} {As : List Value}
theorem z_cVi {Post : Int32 → Heap → Prop} {P : Heap → Prop} (fix : CallFix p m c cc nL s args Ts own) (hM : Met l y ws rm (va_Pc (.ref b :: As) (zP D dA ad A1 H.size P)) (zQi Post A1) mc ms A1) (cw : CallW R s args own C index y bytes maxL ret ws rm mc ms n) (hC : Cx D dA ad A0 s s.heap) (hS : va_S A0 s.heap H locs) (hA : ∀ q, A1 q → A0 q) (hP : P H) (hrv : ∃ cellB : Cell, H[b]? = some cellB ∧ cellB.vm.isStatics = false ∧ s.vm.findClass C = some cellB.cls) (hst : st0 = As.reverse ++ .ref b :: rest) (hn : As.length = n) (hsize : ls.size = nL) (hW : (rest.map fun v => v.category).sum ≤ 8) (hdg : decode cc pc = .ok (.invokevirtual index, 3)) (hf : cells + mc ≤ R.cells ∧ slots + ms ≤ R.slots)
    (kk : ∀ (r : Int32) (H1 : Heap) (locs1 : List Loc), Post r H1 → zF A1 H H1 → va_S A0 s.heap H1 locs1 → W p l e R s m args below meth c H1 locs1 (cells + mc) (slots + ms) Q (F0 m (pc + 3) ls (.int r :: rest))) : W p l e R s m args below meth c H locs cells slots Q (F0 m pc ls st0) :=
  va_calli (va_runV (rest := rest) fix hM cw ⟨zP_blind, hrv, z_pre hC hS hA hP⟩ rfl hn hsize hst (lv_room hW) hdg hf) hS (fun q _ h => hA q h) hA (fun r u t H1 locs1 ht _ hru hB hz hk hS => by obtain rfl := hru; exact kk r H1 locs1 (by rw [← ht]; exact hB) ⟨hz, hk⟩ hS)
theorem z_cVl {Post : Int64 → Heap → Prop} {P : Heap → Prop} (fix : CallFix p m c cc nL s args Ts own) (hM : Met l y ws rm (va_Pc (.ref b :: As) (zP D dA ad A1 H.size P)) (zQl Post A1) mc ms A1) (cw : CallW R s args own C index y bytes maxL ret ws rm mc ms n) (hC : Cx D dA ad A0 s s.heap) (hS : va_S A0 s.heap H locs) (hA : ∀ q, A1 q → A0 q) (hP : P H) (hrv : ∃ cellB : Cell, H[b]? = some cellB ∧ cellB.vm.isStatics = false ∧ s.vm.findClass C = some cellB.cls) (hst : st0 = As.reverse ++ .ref b :: rest) (hn : As.length = n) (hsize : ls.size = nL) (hW : (rest.map fun v => v.category).sum ≤ 8) (hdg : decode cc pc = .ok (.invokevirtual index, 3)) (hf : cells + mc ≤ R.cells ∧ slots + ms ≤ R.slots)
    (kk : ∀ (r : Int64) (H1 : Heap) (locs1 : List Loc), Post r H1 → zF A1 H H1 → va_S A0 s.heap H1 locs1 → W p l e R s m args below meth c H1 locs1 (cells + mc) (slots + ms) Q (F0 m (pc + 3) ls (.long r :: rest))) : W p l e R s m args below meth c H locs cells slots Q (F0 m pc ls st0) :=
  va_calll (va_runV (rest := rest) fix hM cw ⟨zP_blind, hrv, z_pre hC hS hA hP⟩ rfl hn hsize hst (lv_room hW) hdg hf) hS (fun q _ h => hA q h) hA (fun r u t H1 locs1 ht _ hru hB hz hk hS => by obtain rfl := hru; exact kk r H1 locs1 (by rw [← ht]; exact hB) ⟨hz, hk⟩ hS)
theorem z_cVv {Post : Heap → Prop} {P : Heap → Prop} (fix : CallFix p m c cc nL s args Ts own) (hM : Met l y ws rm (va_Pc (.ref b :: As) (zP D dA ad A1 H.size P)) (zQv Post A1) mc ms A1) (cw : CallW R s args own C index y bytes maxL ret ws rm mc ms n) (hC : Cx D dA ad A0 s s.heap) (hS : va_S A0 s.heap H locs) (hA : ∀ q, A1 q → A0 q) (hP : P H) (hrv : ∃ cellB : Cell, H[b]? = some cellB ∧ cellB.vm.isStatics = false ∧ s.vm.findClass C = some cellB.cls) (hst : st0 = As.reverse ++ .ref b :: rest) (hn : As.length = n) (hsize : ls.size = nL) (hW : (rest.map fun v => v.category).sum ≤ 8) (hdg : decode cc pc = .ok (.invokevirtual index, 3)) (hf : cells + mc ≤ R.cells ∧ slots + ms ≤ R.slots)
    (kk : ∀ (H1 : Heap) (locs1 : List Loc), Post H1 → zF A1 H H1 → va_S A0 s.heap H1 locs1 → W p l e R s m args below meth c H1 locs1 (cells + mc) (slots + ms) Q (F0 m (pc + 3) ls (rest))) : W p l e R s m args below meth c H locs cells slots Q (F0 m pc ls st0) :=
  va_callv (va_runV (rest := rest) fix hM cw ⟨zP_blind, hrv, z_pre hC hS hA hP⟩ rfl hn hsize hst (lv_room hW) hdg hf) hS (fun q _ h => hA q h) hA (fun u t H1 locs1 ht _ _ hB hz hk hS => kk H1 locs1 (by rw [← ht]; exact hB) ⟨hz, hk⟩ hS)
theorem z_cVr {Post : Nat → Heap → Prop} {P : Heap → Prop} (fix : CallFix p m c cc nL s args Ts own) (hM : Met l y ws rm (va_Pc (.ref b :: As) (zP D dA ad A1 H.size P)) (zQr Post A1) mc ms A1) (cw : CallW R s args own C index y bytes maxL ret ws rm mc ms n) (hC : Cx D dA ad A0 s s.heap) (hS : va_S A0 s.heap H locs) (hA : ∀ q, A1 q → A0 q) (hP : P H) (hrv : ∃ cellB : Cell, H[b]? = some cellB ∧ cellB.vm.isStatics = false ∧ s.vm.findClass C = some cellB.cls) (hst : st0 = As.reverse ++ .ref b :: rest) (hn : As.length = n) (hsize : ls.size = nL) (hW : (rest.map fun v => v.category).sum ≤ 8) (hdg : decode cc pc = .ok (.invokevirtual index, 3)) (hf : cells + mc ≤ R.cells ∧ slots + ms ≤ R.slots)
    (kk : ∀ (r : Nat) (H1 : Heap) (locs1 : List Loc), Post r H1 → zF A1 H H1 → va_S A0 s.heap H1 locs1 → W p l e R s m args below meth c H1 locs1 (cells + mc) (slots + ms) Q (F0 m (pc + 3) ls (.ref r :: rest))) : W p l e R s m args below meth c H locs cells slots Q (F0 m pc ls st0) :=
  va_callr (va_runV (rest := rest) fix hM cw ⟨zP_blind, hrv, z_pre hC hS hA hP⟩ rfl hn hsize hst (lv_room hW) hdg hf) hS (fun q _ h => hA q h) hA (fun u r t H1 locs1 ht _ _ hB hz hk hS => kk r H1 locs1 (by rw [← ht]; exact hB) ⟨hz, hk⟩ hS)
theorem z_cVq {Post : Option Nat → Heap → Prop} {P : Heap → Prop} (fix : CallFix p m c cc nL s args Ts own) (hM : Met l y ws rm (va_Pc (.ref b :: As) (zP D dA ad A1 H.size P)) (zQq Post A1) mc ms A1) (cw : CallW R s args own C index y bytes maxL ret ws rm mc ms n) (hC : Cx D dA ad A0 s s.heap) (hS : va_S A0 s.heap H locs) (hA : ∀ q, A1 q → A0 q) (hP : P H) (hrv : ∃ cellB : Cell, H[b]? = some cellB ∧ cellB.vm.isStatics = false ∧ s.vm.findClass C = some cellB.cls) (hst : st0 = As.reverse ++ .ref b :: rest) (hn : As.length = n) (hsize : ls.size = nL) (hW : (rest.map fun v => v.category).sum ≤ 8) (hdg : decode cc pc = .ok (.invokevirtual index, 3)) (hf : cells + mc ≤ R.cells ∧ slots + ms ≤ R.slots)
    (kk : ∀ (r : Option Nat) (H1 : Heap) (locs1 : List Loc), Post r H1 → zF A1 H H1 → va_S A0 s.heap H1 locs1 → W p l e R s m args below meth c H1 locs1 (cells + mc) (slots + ms) Q (F0 m (pc + 3) ls (va_rf r :: rest))) : W p l e R s m args below meth c H locs cells slots Q (F0 m pc ls st0) :=
  va_callq (va_runV (rest := rest) fix hM cw ⟨zP_blind, hrv, z_pre hC hS hA hP⟩ rfl hn hsize hst (lv_room hW) hdg hf) hS (fun q _ h => hA q h) hA (fun r u t H1 locs1 ht _ hru hB hz hk hS => by obtain rfl := hru; exact kk r H1 locs1 (by rw [← ht]; exact hB) ⟨hz, hk⟩ hS)
theorem z_cSi {Post : Int32 → Heap → Prop} {P : Heap → Prop} (fix : CallFix p m c cc nL s args Ts own) (hM : Met l y ws rm (va_Pc As (zP D dA ad A1 H.size P)) (zQi Post A1) mc ms A1) (cw : CallB R s args own index y bytes maxL ret ws rm mc ms n ∧ (Cond.static y).before args s = true) (hC : Cx D dA ad A0 s s.heap) (hS : va_S A0 s.heap H locs) (hA : ∀ q, A1 q → A0 q) (hP : P H) (hst : st0 = As.reverse ++ rest) (hn : As.length = n) (hsize : ls.size = nL) (hW : (rest.map fun v => v.category).sum ≤ 8) (hdg : decode cc pc = .ok (.invokestatic index, 3)) (hf : cells + mc ≤ R.cells ∧ slots + ms ≤ R.slots)
    (kk : ∀ (r : Int32) (H1 : Heap) (locs1 : List Loc), Post r H1 → zF A1 H H1 → va_S A0 s.heap H1 locs1 → W p l e R s m args below meth c H1 locs1 (cells + mc) (slots + ms) Q (F0 m (pc + 3) ls (.int r :: rest))) : W p l e R s m args below meth c H locs cells slots Q (F0 m pc ls st0) :=
  va_calli (va_runS (rest := rest) fix hM cw ⟨zP_blind, z_pre hC hS hA hP⟩ rfl hn hsize hst (lv_room hW) hdg hf) hS (fun q _ h => hA q h) hA (fun r u t H1 locs1 ht _ hru hB hz hk hS => by obtain rfl := hru; exact kk r H1 locs1 (by rw [← ht]; exact hB) ⟨hz, hk⟩ hS)
theorem z_cSl {Post : Int64 → Heap → Prop} {P : Heap → Prop} (fix : CallFix p m c cc nL s args Ts own) (hM : Met l y ws rm (va_Pc As (zP D dA ad A1 H.size P)) (zQl Post A1) mc ms A1) (cw : CallB R s args own index y bytes maxL ret ws rm mc ms n ∧ (Cond.static y).before args s = true) (hC : Cx D dA ad A0 s s.heap) (hS : va_S A0 s.heap H locs) (hA : ∀ q, A1 q → A0 q) (hP : P H) (hst : st0 = As.reverse ++ rest) (hn : As.length = n) (hsize : ls.size = nL) (hW : (rest.map fun v => v.category).sum ≤ 8) (hdg : decode cc pc = .ok (.invokestatic index, 3)) (hf : cells + mc ≤ R.cells ∧ slots + ms ≤ R.slots)
    (kk : ∀ (r : Int64) (H1 : Heap) (locs1 : List Loc), Post r H1 → zF A1 H H1 → va_S A0 s.heap H1 locs1 → W p l e R s m args below meth c H1 locs1 (cells + mc) (slots + ms) Q (F0 m (pc + 3) ls (.long r :: rest))) : W p l e R s m args below meth c H locs cells slots Q (F0 m pc ls st0) :=
  va_calll (va_runS (rest := rest) fix hM cw ⟨zP_blind, z_pre hC hS hA hP⟩ rfl hn hsize hst (lv_room hW) hdg hf) hS (fun q _ h => hA q h) hA (fun r u t H1 locs1 ht _ hru hB hz hk hS => by obtain rfl := hru; exact kk r H1 locs1 (by rw [← ht]; exact hB) ⟨hz, hk⟩ hS)
theorem z_cSv {Post : Heap → Prop} {P : Heap → Prop} (fix : CallFix p m c cc nL s args Ts own) (hM : Met l y ws rm (va_Pc As (zP D dA ad A1 H.size P)) (zQv Post A1) mc ms A1) (cw : CallB R s args own index y bytes maxL ret ws rm mc ms n ∧ (Cond.static y).before args s = true) (hC : Cx D dA ad A0 s s.heap) (hS : va_S A0 s.heap H locs) (hA : ∀ q, A1 q → A0 q) (hP : P H) (hst : st0 = As.reverse ++ rest) (hn : As.length = n) (hsize : ls.size = nL) (hW : (rest.map fun v => v.category).sum ≤ 8) (hdg : decode cc pc = .ok (.invokestatic index, 3)) (hf : cells + mc ≤ R.cells ∧ slots + ms ≤ R.slots)
    (kk : ∀ (H1 : Heap) (locs1 : List Loc), Post H1 → zF A1 H H1 → va_S A0 s.heap H1 locs1 → W p l e R s m args below meth c H1 locs1 (cells + mc) (slots + ms) Q (F0 m (pc + 3) ls (rest))) : W p l e R s m args below meth c H locs cells slots Q (F0 m pc ls st0) :=
  va_callv (va_runS (rest := rest) fix hM cw ⟨zP_blind, z_pre hC hS hA hP⟩ rfl hn hsize hst (lv_room hW) hdg hf) hS (fun q _ h => hA q h) hA (fun u t H1 locs1 ht _ _ hB hz hk hS => kk H1 locs1 (by rw [← ht]; exact hB) ⟨hz, hk⟩ hS)
theorem z_cSr {Post : Nat → Heap → Prop} {P : Heap → Prop} (fix : CallFix p m c cc nL s args Ts own) (hM : Met l y ws rm (va_Pc As (zP D dA ad A1 H.size P)) (zQr Post A1) mc ms A1) (cw : CallB R s args own index y bytes maxL ret ws rm mc ms n ∧ (Cond.static y).before args s = true) (hC : Cx D dA ad A0 s s.heap) (hS : va_S A0 s.heap H locs) (hA : ∀ q, A1 q → A0 q) (hP : P H) (hst : st0 = As.reverse ++ rest) (hn : As.length = n) (hsize : ls.size = nL) (hW : (rest.map fun v => v.category).sum ≤ 8) (hdg : decode cc pc = .ok (.invokestatic index, 3)) (hf : cells + mc ≤ R.cells ∧ slots + ms ≤ R.slots)
    (kk : ∀ (r : Nat) (H1 : Heap) (locs1 : List Loc), Post r H1 → zF A1 H H1 → va_S A0 s.heap H1 locs1 → W p l e R s m args below meth c H1 locs1 (cells + mc) (slots + ms) Q (F0 m (pc + 3) ls (.ref r :: rest))) : W p l e R s m args below meth c H locs cells slots Q (F0 m pc ls st0) :=
  va_callr (va_runS (rest := rest) fix hM cw ⟨zP_blind, z_pre hC hS hA hP⟩ rfl hn hsize hst (lv_room hW) hdg hf) hS (fun q _ h => hA q h) hA (fun u r t H1 locs1 ht _ _ hB hz hk hS => kk r H1 locs1 (by rw [← ht]; exact hB) ⟨hz, hk⟩ hS)
theorem z_cSq {Post : Option Nat → Heap → Prop} {P : Heap → Prop} (fix : CallFix p m c cc nL s args Ts own) (hM : Met l y ws rm (va_Pc As (zP D dA ad A1 H.size P)) (zQq Post A1) mc ms A1) (cw : CallB R s args own index y bytes maxL ret ws rm mc ms n ∧ (Cond.static y).before args s = true) (hC : Cx D dA ad A0 s s.heap) (hS : va_S A0 s.heap H locs) (hA : ∀ q, A1 q → A0 q) (hP : P H) (hst : st0 = As.reverse ++ rest) (hn : As.length = n) (hsize : ls.size = nL) (hW : (rest.map fun v => v.category).sum ≤ 8) (hdg : decode cc pc = .ok (.invokestatic index, 3)) (hf : cells + mc ≤ R.cells ∧ slots + ms ≤ R.slots)
    (kk : ∀ (r : Option Nat) (H1 : Heap) (locs1 : List Loc), Post r H1 → zF A1 H H1 → va_S A0 s.heap H1 locs1 → W p l e R s m args below meth c H1 locs1 (cells + mc) (slots + ms) Q (F0 m (pc + 3) ls (va_rf r :: rest))) : W p l e R s m args below meth c H locs cells slots Q (F0 m pc ls st0) :=
  va_callq (va_runS (rest := rest) fix hM cw ⟨zP_blind, z_pre hC hS hA hP⟩ rfl hn hsize hst (lv_room hW) hdg hf) hS (fun q _ h => hA q h) hA (fun r u t H1 locs1 ht _ hru hB hz hk hS => by obtain rfl := hru; exact kk r H1 locs1 (by rw [← ht]; exact hB) ⟨hz, hk⟩ hS)
theorem z_cIv {Post : Heap → Prop} {P : Heap → Prop} (fix : CallFix p m c cc nL s args Ts own) (hM : Met l y ws rm (va_Pc (.ref b :: As) (zP D dA ad A1 H.size P)) (zQv Post A1) mc ms A1) (cw : CallB R s args own index y bytes maxL none ws rm mc ms n ∧ y.name = "<init>" ∧ (Cond.instanceMethod y).before args s = true) (hC : Cx D dA ad A0 s s.heap) (hS : va_S A0 s.heap H locs) (hA : ∀ q, A1 q → A0 q) (hP : P H) (hst : st0 = As.reverse ++ .ref b :: rest) (hn : As.length = n) (hsize : ls.size = nL) (hW : (rest.map fun v => v.category).sum ≤ 8) (hdg : decode cc pc = .ok (.invokespecial index, 3)) (hf : cells + mc ≤ R.cells ∧ slots + ms ≤ R.slots)
    (kk : ∀ (H1 : Heap) (locs1 : List Loc), Post H1 → zF A1 H H1 → va_S A0 s.heap H1 locs1 → W p l e R s m args below meth c H1 locs1 (cells + mc) (slots + ms) Q (F0 m (pc + 3) ls (rest))) : W p l e R s m args below meth c H locs cells slots Q (F0 m pc ls st0) :=
  va_callv (va_runI (rest := rest) fix hM cw ⟨zP_blind, z_pre hC hS hA hP⟩ rfl hn hsize hst (lv_room hW) hdg hf) hS (fun q _ h => hA q h) hA (fun u t H1 locs1 ht _ _ hB hz hk hS => kk H1 locs1 (by rw [← ht]; exact hB) ⟨hz, hk⟩ hS)
theorem z_iret {Post : Int32 → Heap → Prop} {v : Int32} (hx : p.tables.exec = Jvm.exec) (hb : c.code = cc) (hr : meth.sig.returnType = some .int) (hS : va_S A s.heap H locs) (hp : Post v H) (h1 : cells ≤ mc) (h2 : slots ≤ ms) (hdg : decode cc pc = .ok (.ireturn, 1)) (hlocks : meth.locks = false := by first | with_reducible assumption | exact BodyLoose.notSynchronized (by with_reducible assumption) | assumption) : W p l e R s m args below meth c H locs cells slots (MQ below (zQi Post A) args s mc ms A) (F0 m pc ls [.int v]) :=
  W.widen h1 h2 (W.iret hx hb hr (fun t ht _ => ⟨⟨v, v, rfl, rfl, by subst ht; exact hp⟩, hS.F ht⟩) hS.2.2 hdg hlocks)
theorem z_zret {Post : Int32 → Heap → Prop} {v : Int32} {ty : FieldType} (hx : p.tables.exec = Jvm.exec) (hb : c.code = cc) (hr : meth.sig.returnType = some ty) (hn : narrow ty (.int v) = .int v) (hS : va_S A s.heap H locs) (hp : Post v H) (h1 : cells ≤ mc) (h2 : slots ≤ ms) (hdg : decode cc pc = .ok (.ireturn, 1)) (hlocks : meth.locks = false := by first | with_reducible assumption | exact BodyLoose.notSynchronized (by with_reducible assumption) | assumption) : W p l e R s m args below meth c H locs cells slots (MQ below (zQi Post A) args s mc ms A) (F0 m pc ls [.int v]) :=
  W.widen h1 h2 (W.zret hx hb hr hn (fun t ht _ => ⟨⟨v, v, rfl, rfl, by subst ht; exact hp⟩, hS.F ht⟩) hS.2.2 hdg hlocks)
theorem z_lret {Post : Int64 → Heap → Prop} {v : Int64} (hx : p.tables.exec = Jvm.exec) (hb : c.code = cc) (hr : meth.sig.returnType = some .long) (hS : va_S A s.heap H locs) (hp : Post v H) (h1 : cells ≤ mc) (h2 : slots ≤ ms) (hdg : decode cc pc = .ok (.lreturn, 1)) (hlocks : meth.locks = false := by first | with_reducible assumption | exact BodyLoose.notSynchronized (by with_reducible assumption) | assumption) : W p l e R s m args below meth c H locs cells slots (MQ below (zQl Post A) args s mc ms A) (F0 m pc ls [.long v]) :=
  W.widen h1 h2 (W.lret hx hb hr (fun t ht _ => ⟨⟨v, v, rfl, rfl, by subst ht; exact hp⟩, hS.F ht⟩) hS.2.2 hdg hlocks)
theorem z_vret {Post : Heap → Prop} (hx : p.tables.exec = Jvm.exec) (hb : c.code = cc) (hr : meth.sig.returnType = none) (hS : va_S A s.heap H locs) (hp : Post H) (h1 : cells ≤ mc) (h2 : slots ≤ ms) (hdg : decode cc pc = .ok (.return_, 1)) (hlocks : meth.locks = false := by first | with_reducible assumption | exact BodyLoose.notSynchronized (by with_reducible assumption) | assumption) : W p l e R s m args below meth c H locs cells slots (MQ below (zQv Post A) args s mc ms A) (F0 m pc ls []) :=
  W.widen h1 h2 (W.vret hx hb hr (fun t ht _ => ⟨⟨(), rfl, trivial, by subst ht; exact hp⟩, hS.F ht⟩) hS.2.2 hdg hlocks)
theorem z_aret {Post : Nat → Heap → Prop} {v : Nat} {rt : FieldType} (hx : p.tables.exec = Jvm.exec) (hb : c.code = cc) (hr : meth.sig.returnType = some rt) (hrt : (∃ n, rt = .object n) ∨ ∃ t, rt = .array t) (hS : va_S A s.heap H locs) (hp : Post v H) (h1 : cells ≤ mc) (h2 : slots ≤ ms) (hdg : decode cc pc = .ok (.areturn, 1)) (hlocks : meth.locks = false := by first | with_reducible assumption | exact BodyLoose.notSynchronized (by with_reducible assumption) | assumption) : W p l e R s m args below meth c H locs cells slots (MQ below (zQr Post A) args s mc ms A) (F0 m pc ls [.ref v]) :=
  W.widen h1 h2 (W.aret hx hb hr hrt (Or.inr ⟨v, rfl⟩) (fun t ht _ => ⟨⟨(), v, rfl, trivial, by subst ht; exact hp⟩, hS.F ht⟩) hS.2.2 hdg hlocks)
theorem z_qret {Post : Option Nat → Heap → Prop} {v : Option Nat} {rt : FieldType} (hx : p.tables.exec = Jvm.exec) (hb : c.code = cc) (hr : meth.sig.returnType = some rt) (hrt : (∃ n, rt = .object n) ∨ ∃ t, rt = .array t) (hS : va_S A s.heap H locs) (hp : Post v H) (h1 : cells ≤ mc) (h2 : slots ≤ ms) (hdg : decode cc pc = .ok (.areturn, 1)) (hlocks : meth.locks = false := by first | with_reducible assumption | exact BodyLoose.notSynchronized (by with_reducible assumption) | assumption) : W p l e R s m args below meth c H locs cells slots (MQ below (zQq Post A) args s mc ms A) (F0 m pc ls [va_rf v]) :=
  W.widen h1 h2 (W.aret hx hb hr hrt (va_rf_or v) (fun t ht _ => ⟨⟨v, v, rfl, rfl, by subst ht; exact hp⟩, hS.F ht⟩) hS.2.2 hdg hlocks)
/-- a new array of ints: its class is the known one -/
theorem z_newi {ws : va_W} (hx : p.tables.exec = Jvm.exec) (hb : c.code = cc) (harr : (Cond.arrayClass .int).before args s = true) (hK : va_K D vwCl (tyL dA) s) (hP : va_P D vwCl ws H) (hD : va_D A ws) (hS : va_S A s.heap H locs) (hA : ∀ q, s.heap.size ≤ q → A q) {N : Nat} (hN : N ≤ 65536) (hcells : cells + 1 ≤ R.cells) (hslots : slots + N ≤ R.slots) (hdg : decode cc pc = .ok (.newarray .int, 2))
    (kk : ∀ (q : Nat) (H1 : Heap) , va_P D vwCl (ws ++ [(q, .inl (dA 0, N, .inl (fun _ => 0)))]) H1 → va_D A (ws ++ [(q, .inl (dA 0, N, .inl (fun _ => 0)))]) → va_S A s.heap H1 locs → H.size ≤ H1.size → (∀ q : Nat, q < H.size → H1[q]? = H[q]?) → q = H.size →
      W p l e R s m args below meth c H1 locs (cells + 1) (slots + N) Q (F0 m (pc + 2) ls (.ref q :: rest))) : W p l e R s m args below meth c H locs cells slots Q (F0 m pc ls (.int (nI N) :: rest)) := by
  refine va_newaK hx hb (atype := .int) harr rfl hdg rfl (nI_pos (by omega)) (nI_clamp (by omega)) (by show N * 4 ≤ _; omega) hcells hslots rfl fun H1 cA e1 z1 o1 hAr hNm => ?_
  have hk : ∀ (k : Nat) (x : Nat × va_E), ws[k]? = some x → H1[x.1]? = H[x.1]? := fun k x hx => o1 x.1 ((hP k x hx).lt)
  have hcA : cA = dA 0 := by
    have h2 : s.vm.findClass ("[" ++ (FieldType.int).toString) = some (dA 0) := (hK.2 0 (dA 0, .int) rfl).2
    exact Option.some.inj (hNm.symm.trans h2)
  subst hcA
  refine kk H.size H1 ((hP.kept hk).app (fun k x hx => ?_)) (hD.push hP rfl (hA _ hS.1)) ⟨Nat.le_trans hS.1 (by omega), fun x h1 h2 => (o1 x (Nat.lt_of_lt_of_le h1 hS.1)).trans (hS.2.1 x h1 h2), hS.2.2⟩ (by omega) o1 rfl
  have hz : k < 1 := (List.getElem?_eq_some_iff.mp hx).1
  rw [show k = 0 by omega] at hx
  cases hx
  exact e1
/-- a new array (long): its class is the known one -/
theorem z_newl {ws : va_W} (hx : p.tables.exec = Jvm.exec) (hb : c.code = cc) (harr : (Cond.arrayClass .long).before args s = true) (hK : va_K D vwCl (tyL dA) s) (hP : va_P D vwCl ws H) (hD : va_D A ws) (hS : va_S A s.heap H locs) (hA : ∀ q, s.heap.size ≤ q → A q) {N : Nat} (hN : N ≤ 65536) (hcells : cells + 1 ≤ R.cells) (hslots : slots + N ≤ R.slots) (hdg : decode cc pc = .ok (.newarray .long, 2))
    (kk : ∀ (q : Nat) (H1 : Heap) , va_P D vwCl (ws ++ [(q, .inl (dA 1, N, .inr (.inl (fun _ => 0))))]) H1 → va_D A (ws ++ [(q, .inl (dA 1, N, .inr (.inl (fun _ => 0))))]) → va_S A s.heap H1 locs → H.size ≤ H1.size → (∀ q : Nat, q < H.size → H1[q]? = H[q]?) → q = H.size →
      W p l e R s m args below meth c H1 locs (cells + 1) (slots + N) Q (F0 m (pc + 2) ls (.ref q :: rest))) : W p l e R s m args below meth c H locs cells slots Q (F0 m pc ls (.int (nI N) :: rest)) := by
  refine va_newaK hx hb (atype := .long) harr rfl hdg rfl (nI_pos (by omega)) (nI_clamp (by omega)) (by show N * 8 ≤ _; omega) hcells hslots rfl fun H1 cA e1 z1 o1 hAr hNm => ?_
  have hk : ∀ (k : Nat) (x : Nat × va_E), ws[k]? = some x → H1[x.1]? = H[x.1]? := fun k x hx => o1 x.1 ((hP k x hx).lt)
  have hcA : cA = dA 1 := by
    have h2 : s.vm.findClass ("[" ++ (FieldType.long).toString) = some (dA 1) := (hK.2 1 (dA 1, .long) rfl).2
    exact Option.some.inj (hNm.symm.trans h2)
  subst hcA
  refine kk H.size H1 ((hP.kept hk).app (fun k x hx => ?_)) (hD.push hP rfl (hA _ hS.1)) ⟨Nat.le_trans hS.1 (by omega), fun x h1 h2 => (o1 x (Nat.lt_of_lt_of_le h1 hS.1)).trans (hS.2.1 x h1 h2), hS.2.2⟩ (by omega) o1 rfl
  have hz : k < 1 := (List.getElem?_eq_some_iff.mp hx).1
  rw [show k = 0 by omega] at hx
  cases hx
  exact e1
/-- a new array (byte): its class is the known one -/
theorem z_newb {ws : va_W} (hx : p.tables.exec = Jvm.exec) (hb : c.code = cc) (harr : (Cond.arrayClass .byte).before args s = true) (hK : va_K D vwCl (tyL dA) s) (hP : va_P D vwCl ws H) (hD : va_D A ws) (hS : va_S A s.heap H locs) (hA : ∀ q, s.heap.size ≤ q → A q) {N : Nat} (hN : N ≤ 65536) (hcells : cells + 1 ≤ R.cells) (hslots : slots + N ≤ R.slots) (hdg : decode cc pc = .ok (.newarray .byte, 2))
    (kk : ∀ (q : Nat) (H1 : Heap) , va_P D vwCl (ws ++ [(q, .inl (dA 2, N, .inl (fun _ => 0)))]) H1 → va_D A (ws ++ [(q, .inl (dA 2, N, .inl (fun _ => 0)))]) → va_S A s.heap H1 locs → H.size ≤ H1.size → (∀ q : Nat, q < H.size → H1[q]? = H[q]?) → q = H.size →
      W p l e R s m args below meth c H1 locs (cells + 1) (slots + N) Q (F0 m (pc + 2) ls (.ref q :: rest))) : W p l e R s m args below meth c H locs cells slots Q (F0 m pc ls (.int (nI N) :: rest)) := by
  refine va_newaK hx hb (atype := .byte) harr rfl hdg rfl (nI_pos (by omega)) (nI_clamp (by omega)) (by show N * 1 ≤ _; omega) hcells hslots rfl fun H1 cA e1 z1 o1 hAr hNm => ?_
  have hk : ∀ (k : Nat) (x : Nat × va_E), ws[k]? = some x → H1[x.1]? = H[x.1]? := fun k x hx => o1 x.1 ((hP k x hx).lt)
  have hcA : cA = dA 2 := by
    have h2 : s.vm.findClass ("[" ++ (FieldType.byte).toString) = some (dA 2) := (hK.2 2 (dA 2, .byte) rfl).2
    exact Option.some.inj (hNm.symm.trans h2)
  subst hcA
  refine kk H.size H1 ((hP.kept hk).app (fun k x hx => ?_)) (hD.push hP rfl (hA _ hS.1)) ⟨Nat.le_trans hS.1 (by omega), fun x h1 h2 => (o1 x (Nat.lt_of_lt_of_le h1 hS.1)).trans (hS.2.1 x h1 h2), hS.2.2⟩ (by omega) o1 rfl
  have hz : k < 1 := (List.getElem?_eq_some_iff.mp hx).1
  rw [show k = 0 by omega] at hx
  cases hx
  exact e1
/-- a new array of references -/
theorem z_newo {ws : va_W} {own : String} {index : Nat} (hx : p.tables.exec = Jvm.exec) (hb : c.code = cc) (hown : s.vm.findClass own = some m.cls) (hclink : (Cond.classLink own index "java/lang/Object").before args s = true) (hover : va_AO "java/lang/Object" s) (hK : va_K D vwCl (tyL dA) s) (hP : va_P D vwCl ws H) (hD : va_D A ws) (hS : va_S A s.heap H locs) (hA : ∀ q, s.heap.size ≤ q → A q) {N : Nat} (hN : N ≤ 65536) (hcells : cells + 1 ≤ R.cells) (hslots : slots + N ≤ R.slots) (hdg : decode cc pc = .ok (.anewarray index, 3))
    (kk : ∀ (q : Nat) (H1 : Heap) , va_P D vwCl (ws ++ [(q, .inl (dA 3, N, .inr (.inr (.inr (.inr (fun _ => none))))))]) H1 → va_D A (ws ++ [(q, .inl (dA 3, N, .inr (.inr (.inr (.inr (fun _ => none))))))]) → va_S A s.heap H1 locs →
      W p l e R s m args below meth c H1 locs (cells + 1) (slots + N) Q (F0 m (pc + 3) ls (.ref q :: rest))) : W p l e R s m args below meth c H locs cells slots Q (F0 m pc ls (.int (nI N) :: rest)) := by
  refine va_newq hx hb hown hclink hover hK hP hD hS hA (nI_pos (by omega)) (nI_clamp (by omega)) (by omega) hcells hslots hdg fun q cA H1 hK1 hP1 hD1 hS1 => ?_
  have hcA : cA = dA 3 := by
    obtain ⟨-, -, -, -, -, h1⟩ := (hK1.2 (tyL dA).length (cA, .object "java/lang/Object") (by simp)).2
    obtain ⟨-, -, -, -, -, h2⟩ := (hK.2 3 (dA 3, .object "java/lang/Object") rfl).2
    exact Option.some.inj (h1.symm.trans h2)
  subst hcA
  exact kk q H1 hP1 hD1 hS1
/-- a new array of references -/
theorem z_news {ws : va_W} {own : String} {index : Nat} (hx : p.tables.exec = Jvm.exec) (hb : c.code = cc) (hown : s.vm.findClass own = some m.cls) (hclink : (Cond.classLink own index "FencedStandbys$Standby").before args s = true) (hover : va_AO "FencedStandbys$Standby" s) (hK : va_K D vwCl (tyL dA) s) (hP : va_P D vwCl ws H) (hD : va_D A ws) (hS : va_S A s.heap H locs) (hA : ∀ q, s.heap.size ≤ q → A q) {N : Nat} (hN : N ≤ 65536) (hcells : cells + 1 ≤ R.cells) (hslots : slots + N ≤ R.slots) (hdg : decode cc pc = .ok (.anewarray index, 3))
    (kk : ∀ (q : Nat) (H1 : Heap) , va_P D vwCl (ws ++ [(q, .inl (dA 4, N, .inr (.inr (.inr (.inr (fun _ => none))))))]) H1 → va_D A (ws ++ [(q, .inl (dA 4, N, .inr (.inr (.inr (.inr (fun _ => none))))))]) → va_S A s.heap H1 locs →
      W p l e R s m args below meth c H1 locs (cells + 1) (slots + N) Q (F0 m (pc + 3) ls (.ref q :: rest))) : W p l e R s m args below meth c H locs cells slots Q (F0 m pc ls (.int (nI N) :: rest)) := by
  refine va_newq hx hb hown hclink hover hK hP hD hS hA (nI_pos (by omega)) (nI_clamp (by omega)) (by omega) hcells hslots hdg fun q cA H1 hK1 hP1 hD1 hS1 => ?_
  have hcA : cA = dA 4 := by
    obtain ⟨-, -, -, -, -, h1⟩ := (hK1.2 (tyL dA).length (cA, .object "FencedStandbys$Standby") (by simp)).2
    obtain ⟨-, -, -, -, -, h2⟩ := (hK.2 4 (dA 4, .object "FencedStandbys$Standby") rfl).2
    exact Option.some.inj (h1.symm.trans h2)
  subst hcA
  exact kk q H1 hP1 hD1 hS1
/-- a loop: an invariant, a measure that falls -/
theorem z_loop {σ : Type} (μ : σ → Nat) (I : σ → Heap → List Loc → Array Slot → Prop) (x0 : σ) (h0 : I x0 H locs ls)
    (step : ∀ (x : σ) (H : Heap) (locs : List Loc) (ls : Array Slot), I x H locs ls → (∀ (x' : σ) (H' : Heap) (locs' : List Loc) (ls' : Array Slot), I x' H' locs' ls' → μ x' < μ x → W p l e R s m args below meth c H' locs' cells slots Q (F0 m pc ls' [])) → W p l e R s m args below meth c H locs cells slots Q (F0 m pc ls [])) :
    W p l e R s m args below meth c H locs cells slots Q (F0 m pc ls []) := by
  have key : ∀ (n : Nat) (x : σ) (H : Heap) (locs : List Loc) (ls : Array Slot), μ x < n → I x H locs ls → W p l e R s m args below meth c H locs cells slots Q (F0 m pc ls []) := by
    intro n
    induction n with
    | zero => intro x H locs ls h; exact absurd h (by omega)
    | succ n ih =>
      intro x H locs ls h hI
      exact step x H locs ls hI (fun x' H' locs' ls' h' hl => ih x' H' locs' ls' (by omega) h')
  exact key (μ x0 + 1) x0 H locs ls (by omega) h0
end ZK
