/-! rows for the component's walks -/
theorem z_cond {x : Int32} {y : Nat} (h : x = nI y) : x = nI y := h
/-- the elements of a list: notes, that nobody changes -/
def NtG (D : va_G) (A : Nat → Prop) (g : Nat → Option Nat) (n : Nat) (H : Heap) : Prop := ∀ k, k < n → ∃ (y : Nat) (vs : List Value), g k = some y ∧ ¬ A y ∧ va_at D vwCl (y, .inr (6, vs)) H
theorem NtG.kept {D : va_G} {A : Nat → Prop} {g : Nat → Option Nat} {n : Nat} {H0 H : Heap} {locs : List Loc} (h : NtG D A g n H0) (hS : va_S A H0 H locs) : NtG D A g n H := by
  intro k hk
  obtain ⟨y, vs, h1, h2, h3⟩ := h k hk
  exact ⟨y, vs, h1, h2, h3.kept (hS.2.1 y h3.lt h2)⟩
theorem NtG.narrow {D : va_G} {A B : Nat → Prop} {g : Nat → Option Nat} {n : Nat} {H : Heap} (h : NtG D A g n H) (hAB : ∀ q, B q → A q) : NtG D B g n H := by
  intro k hk
  obtain ⟨y, vs, h1, h2, h3⟩ := h k hk
  exact ⟨y, vs, h1, fun q => h2 (hAB y q), h3⟩
theorem z_asgN {D : va_G} {dA : Nat → ClassId} {ad : Nat → Nat} {A : Nat → Prop} {s : State} {H : Heap} (hC : Cx D dA ad A s H) : ∀ comp c0 : ClassId, s.vm.findClass "java/lang/Object" = some comp → s.vm.findClass RX6 = some c0 → s.vm.assignable c0 comp = true := fun comp c0 h1 h2 => vb_asgC (Cx.nC hC (List.mem_of_getElem? (i := 18) rfl)) comp c0 h1 h2
theorem z_anyN {D : va_G} {dA : Nat → ClassId} {ad : Nat → Nat} {A : Nat → Prop} {s : State} {H0 H : Heap} (hC : Cx D dA ad A s H0) {y : Nat} {vs : List Value} (h : va_at D vwCl (y, .inr (6, vs)) H) : va_Any "java/lang/Object" s H y :=
  va_rAny hC.K (ws := [(y, .inr (6, vs))]) (fun k q hk => by match k, hk with | 0, hk => cases hk; exact h | k + 1, hk => simp at hk) (q0 := 0) rfl (ci := 6) rfl (z_asgN hC)
theorem mx_n {a b : Nat} (ha : a < 2 ^ 31) (hb : b < 2 ^ 31) : (if nI a < nI b then nI b else nI a) = nI (if a < b then b else a) := by
  by_cases q : a < b
  · rw [if_pos q, if_pos (nI_lt q hb)]
  · rw [if_neg q, if_neg (nI_nlt (Nat.le_of_not_lt q) ha)]
theorem mn_n {a b : Nat} (ha : a < 2 ^ 31) (hb : b < 2 ^ 31) : (if nI b < nI a then nI b else nI a) = nI (if b < a then b else a) := by
  by_cases q : b < a
  · rw [if_pos q, if_pos (nI_lt q ha)]
  · rw [if_neg q, if_neg (nI_nlt (Nat.le_of_not_lt q) hb)]
section ZC
variable {p : Program} {l : Launch} {e : Env} {R : Room} {s : State} {m : MethodId} {args : Array Value} {below : List Frame} {meth : Method} {c : Code} {H : Heap} {locs : List Loc} {cells slots : Nat} {Q : State → Prop}
variable {cc : ByteArray} {pc : Nat} {ls : Array Slot} {rest : List Value} {D : va_G} {dA : Nat → ClassId} {ad : Nat → Nat} {A : Nat → Prop}
/-- System.arraycopy from 0 to 0, the source may be a frozen cell -/
theorem z_copyA {α : Type} (mk : α → Value) {own : String} {index : Nat} {ws : va_W} {a0 a q1 N nS nD : Nat} {cS cD : ClassId} {kS kD : Class} {compS compD : ClassId} {tyS tyD : FieldType} {f g : Nat → α} {x1 x2 : vp_A}
    (hx : p.tables.exec = Jvm.exec) (hb : c.code = cc) (hml : c.maxLocals = ls.size) (hown : s.vm.findClass own = some m.cls) (hlink : (Cond.methodLink own index arraycopyName).before args s = true) (hnat : (Cond.native arraycopyName).before args s = true) (hstat : (Cond.static arraycopyName).before args s = true) (hini : (Cond.initialized "java/lang/System").before args s = true)
    (hP : va_P D vwCl ws H) (hD : va_D A ws) (hS : va_S A s.heap H locs) (hsrc : H[a0]? = some (arrV cS nS (fun j => mk (f j)))) (he : ws[q1]? = some (a, .inl (cD, x1))) (e1 : vp_cell cD x1 = arrV cD nD (fun j => mk (g j))) (e2 : vp_cell cD x2 = arrV cD nD (fun j => mk (va_cpy f g 0 0 N j)))
    (hks : s.vm.classes[cS]? = some kS) (hkd : s.vm.classes[cD]? = some kD) (hsk : kS.kind = .array compS tyS) (hdk : kD.kind = .array compD tyD) (hty : ((refKind tyS != refKind tyD) || (!refKind tyS && tyS != tyD)) = false)
    (h4 : N ≤ nS) (h5 : N ≤ nD) (hN : N < 2 ^ 31)
    (hvals : ∀ (T : State) (vm' : Vm), T.heap = H → s.vm.Alike vm' → ∀ i, i < N → fits tyD (mk (f i)) = true ∧ (T.setVm vm').takes compD (mk (f i)))
    (hframes : 1 ≤ R.frames) (hlocals : (rest.map fun v => v.category).sum + (nativeFrameWords "java/lang/System" "arraycopy" 5 + 11) ≤ R.locals) (hdg : decode cc pc = .ok (.invokestatic index, 3))
    (kk : ∀ (H1 : Heap) (locs1 : List Loc), va_P D vwCl (ws.set q1 (a, .inl (cD, x2))) H1 → va_D A (ws.set q1 (a, .inl (cD, x2))) → va_S A s.heap H1 locs1 → W p l e R s m args below meth c H1 locs1 cells slots Q (F0 m (pc + 3) ls rest)) :
    W p l e R s m args below meth c H locs cells slots Q (F0 m pc ls (.int (nI N) :: .int (nI 0) :: .ref a :: .int (nI 0) :: .ref a0 :: rest)) := by
  intro T hT X
  have hc1 : H[a]? = some (arrV cD nD (fun j => mk (g j))) := by rw [← e1]; exact hP q1 _ he
  have z0 : (nI 0).toNatClampNeg = 0 := nI_clamp (by decide)
  have zN : (nI N).toNatClampNeg = N := nI_clamp hN
  have i0 : (nI 0).toInt = 0 := nI_toInt (by decide)
  have iN : (nI N).toInt = N := nI_toInt hN
  obtain ⟨vm', X', step⟩ := X.arraycopy hx hown hlink hnat hstat hini (src := a0) (dst := a) (cs := arrV cS nS (fun j => mk (f j))) (cd := arrV cD nD (fun j => mk (g j))) (srcPos := nI 0) (destPos := nI 0) (n := nI N) (by rw [hT]; exact hsrc) (by rw [hT]; exact hc1)
    (fun _ h => by cases h) (fun _ h => by cases h) (fun h => by cases h) (fun h => by cases h) hks hkd hsk hdk hty (nI_pos (by decide)) (nI_pos (by decide)) (nI_pos hN)
    (by rw [i0, iN, arrV_size]; omega) (by rw [i0, iN, arrV_size]; omega)
    (fun vm₁ hal i hi => by
      rw [zN] at hi
      rw [z0, Nat.zero_add, Array.getD_eq_getD_getElem?, arrV_read _ _ (by omega)]
      exact hvals T vm₁ hT hal i hi)
    (g := F0 m pc ls (.int (nI N) :: .int (nI 0) :: .ref a :: .int (nI 0) :: .ref a0 :: rest)) rfl (by rw [hml]) (rest := rest) rfl (by rw [hb]; exact hdg) hframes (by show 2 * 0 + _ + _ ≤ _; omega)
  have ec : copied (arrV cS nS (fun j => mk (f j))) (arrV cD nD (fun j => mk (g j))) (nI 0) (nI 0) (nI N) = vp_cell cD x2 := by
    rw [e2]
    have := va_copied mk cS cD (n0 := nS) (n1 := nD) (sp := 0) (dp := 0) (n := N) f g (by omega)
    unfold copied
    rw [z0, zN]
    exact this
  rw [ec] at X' step
  have hl : a < H.size := (Array.getElem?_eq_some_iff.mp hc1).1
  have hh : ((T.setVm vm').setCell a (vp_cell cD x2)).heap = H.setIfInBounds a (vp_cell cD x2) := by rw [← hT]; rfl
  have oq : ∀ q : Nat, q ≠ a → (H.setIfInBounds a (vp_cell cD x2))[q]? = H[q]? := fun q hq => by simp [Array.getElem?_setIfInBounds, Ne.symm hq]
  have hat : va_at D vwCl (a, .inl (cD, x2)) (H.setIfInBounds a (vp_cell cD x2)) := by
    show (H.setIfInBounds a (vp_cell cD x2))[a]? = some _
    simp [Array.getElem?_setIfInBounds, hl]
  obtain ⟨t, a1, b1⟩ := kk _ _ (hP.set hD he hat oq) (hD.set he) ⟨by simp; exact hS.1, fun q g1 g2 => by
      rw [oq q (fun e => g2 (by rw [e]; exact hD.2 q1 _ he))]
      exact hS.2.1 q g1 g2, fun q hq => by
      rcases List.mem_append.mp hq with h | h
      · exact hS.2.2 q h
      · obtain ⟨z, -, hz⟩ := List.mem_map.mp h
        rw [← hz]
        exact hD.2 q1 _ he⟩ _ hh X'
  exact ⟨t, step t a1, b1⟩
theorem z_kind {tys : List (ClassId × FieldType)} (hK : va_K D vwCl tys s) {t : Nat} {q : ClassId × FieldType} (h : tys[t]? = some q) : ∃ (k : Class) (comp : ClassId), s.vm.classes[q.1]? = some k ∧ k.kind = .array comp q.2 := by
  obtain ⟨-, k, hk, comp, hkk⟩ := (hK.2 t q h).1 0 (fun _ => .null)
  exact ⟨k, comp, hk, hkk⟩
/-- notes from one list's array to another -/
theorem z_copyq {own : String} {index : Nat} {ws wz : va_W} {a0 a q1 q0 N nS nD : Nat} {f g : Nat → Option Nat}
    (hx : p.tables.exec = Jvm.exec) (hb : c.code = cc) (hml : c.maxLocals = ls.size) (hown : s.vm.findClass own = some m.cls) (hlink : (Cond.methodLink own index arraycopyName).before args s = true) (hnat : (Cond.native arraycopyName).before args s = true) (hstat : (Cond.static arraycopyName).before args s = true) (hini : (Cond.initialized "java/lang/System").before args s = true)
    (hC : Cx D dA ad A s s.heap) (hP : va_P D vwCl ws H) (hD : va_D A ws) (hS : va_S A s.heap H locs) (hZ : va_P D vwCl wz H) (hsrc : wz[q0]? = some (a0, .inl (dA 3, nS, .inr (.inr (.inr (.inr f)))))) (he : ws[q1]? = some (a, .inl (dA 3, nD, .inr (.inr (.inr (.inr g))))))
    (h4 : N ≤ nS) (h5 : N ≤ nD) (hN : N < 2 ^ 31) {A2 : Nat → Prop} (hG : NtG D A2 f N H)
    (hframes : 1 ≤ R.frames) (hlocals : (rest.map fun v => v.category).sum + (nativeFrameWords "java/lang/System" "arraycopy" 5 + 11) ≤ R.locals) (hdg : decode cc pc = .ok (.invokestatic index, 3))
    (kk : ∀ (H1 : Heap) (locs1 : List Loc), va_P D vwCl (ws.set q1 (a, .inl (dA 3, nD, .inr (.inr (.inr (.inr (va_cpy f g 0 0 N))))))) H1 → va_D A (ws.set q1 (a, .inl (dA 3, nD, .inr (.inr (.inr (.inr (va_cpy f g 0 0 N))))))) → va_S A s.heap H1 locs1 → W p l e R s m args below meth c H1 locs1 cells slots Q (F0 m (pc + 3) ls rest)) :
    W p l e R s m args below meth c H locs cells slots Q (F0 m pc ls (.int (nI N) :: .int (nI 0) :: .ref a :: .int (nI 0) :: .ref a0 :: rest)) := by
  obtain ⟨k3, comp, hk3, hkk3⟩ := z_kind hC.K (t := 3) (q := (dA 3, .object "java/lang/Object")) rfl
  obtain ⟨kA, comp', r1, r2, r3, -⟩ := (hC.K.2 3 (dA 3, .object "java/lang/Object") rfl).2
  cases hk3.symm.trans r1
  cases hkk3.symm.trans r2
  refine z_copyA (fun z => va_rf z) hx hb hml hown hlink hnat hstat hini hP hD hS (hZ q0 _ hsrc) he (vp_cell_q _ _ _) (x2 := (nD, .inr (.inr (.inr (.inr (va_cpy f g 0 0 N)))))) (vp_cell_q _ _ _) hk3 hk3 hkk3 hkk3 rfl h4 h5 hN ?_ hframes hlocals hdg kk
  intro T vm₁ hT hal i hi
  obtain ⟨y, vs, g1, -, g3⟩ := hG i hi
  rw [g1]
  obtain ⟨cellV, b1, b2, ⟨kC, hkC⟩, hasg⟩ := z_anyN hC g3
  obtain ⟨kE, hkE, -⟩ := Vm.findClass_spec r3
  obtain ⟨kC', hkC', -⟩ := hal.2.2 _ _ hkC
  obtain ⟨kE', hkE', -⟩ := hal.2.2 _ _ hkE
  refine ⟨rfl, cellV, (show T.heap[y]? = some cellV by rw [hT]; exact b1), (fun q h => by rw [h] at b2; cases b2), ⟨kC', hkC'⟩, ⟨kE', hkE'⟩, ?_⟩
  show vm₁.assignable _ _ = true
  rw [hal.assignable]
  exact hasg _ r3
end ZC
theorem z_arecv {D : va_G} {dA : Nat → ClassId} {ad : Nat → Nat} {A : Nat → Prop} {s : State} {H0 H : Heap} (hC : Cx D dA ad A s H0) {ws : va_W} (hP : va_P D vwCl ws H) {q0 a n : Nat} {g : Nat → Option Nat} (he : ws[q0]? = some (a, .inl (dA 3, n, .inr (.inr (.inr (.inr g)))))) : ∃ cell : Cell, H[a]? = some cell ∧ cell.vm.isStatics = false ∧ s.vm.findClass "[Ljava/lang/Object;" = some cell.cls := by
  obtain ⟨-, -, -, -, -, h⟩ := (hC.K.2 3 (dA 3, .object "java/lang/Object") rfl).2
  exact ⟨_, hP q0 _ he, rfl, h⟩
/-- a note that nobody changes -/
def NtV (D : va_G) (A : Nat → Prop) (y : Nat) (H : Heap) : Prop := ∃ vs : List Value, ¬ A y ∧ va_at D vwCl (y, .inr (6, vs)) H
theorem NtV.kept {D : va_G} {A : Nat → Prop} {y : Nat} {H0 H : Heap} {locs : List Loc} (h : NtV D A y H0) (hS : va_S A H0 H locs) : NtV D A y H := by
  obtain ⟨vs, h2, h3⟩ := h
  exact ⟨vs, h2, h3.kept (hS.2.1 y h3.lt h2)⟩
theorem NtV.narrow {D : va_G} {A B : Nat → Prop} {y : Nat} {H : Heap} (h : NtV D A y H) (hAB : ∀ q, B q → A q) : NtV D B y H := by
  obtain ⟨vs, h2, h3⟩ := h
  exact ⟨vs, fun q => h2 (hAB y q), h3⟩
theorem NtV.any {D : va_G} {dA : Nat → ClassId} {ad : Nat → Nat} {A A2 : Nat → Prop} {s : State} {H0 H : Heap} (hC : Cx D dA ad A s H0) {y : Nat} (h : NtV D A2 y H) : va_Any "java/lang/Object" s H y := by
  obtain ⟨vs, -, h3⟩ := h
  exact z_anyN hC h3
def capG (cap : Nat) : Nat := cap + (if 1 < cap / 2 then cap / 2 else 1)
theorem capG_lt (cap : Nat) : cap < capG cap ∧ capG cap ≤ 2 * cap + 1 := by
  unfold capG
  split <;> omega
/-- what a call through an interface asks -/
theorem lw_F {own : String} {idx : Nat} {C : String} {x y : MethodName} {b : ByteArray} {L : Nat} {r : Option FieldType} (h1 : Cond.methodLink own idx x ∈ lw_all) (h2 : Cond.selects C x y ∈ lw_all) (h3 : Cond.instanceMethod y ∈ lw_all) (h4 : Cond.initialized y.cls ∈ lw_all) (h5 : Cond.code y b L r ∈ lw_all) : GoodIn lw_all (va_wsF own idx C x y (ws_ y b L r)) := by
  refine lw_app ?_ (lw_meth h5)
  intro w hw
  simp only [List.mem_cons, List.not_mem_nil, or_false] at hw
  rcases hw with e | e | e | e
  · rw [e]; exact h1
  · rw [e]; exact h2
  · rw [e]; exact h3
  · rw [e]; exact h4
section ZF
variable {p : Program} {l : Launch} {e : Env} {R : Room} {s : State} {m : MethodId} {args : Array Value} {below : List Frame} {meth : Method} {c : Code} {H : Heap} {locs : List Loc} {cells slots : Nat} {Q : State → Prop}
variable {cc : ByteArray} {pc : Nat} {ls : Array Slot} {rest st0 : List Value} {D : va_G} {dA : Nat → ClassId} {ad : Nat → Nat} {A A0 A1 : Nat → Prop}
variable {x y : MethodName} {bytes : ByteArray} {maxL nL mc ms n index count : Nat} {ret : Option FieldType} {ws : List Cond} {rm : Room} {Ts : List Cond} {own C : String} {b : Addr} {As : List Value} {cC : ClassId}
theorem z_cFi {Post : Int32 → Heap → Prop} {P : Heap → Prop} (hat : ClassAt s C cC) (fix : CallFix p m c cc nL s args Ts own) (hM : Met l y ws rm (va_Pc (.ref b :: As) (zP D dA ad A1 H.size P)) (zQi Post A1) mc ms A1) (cw : va_CI R s args own C index x y bytes maxL ret ws rm mc ms n) (hC : Cx D dA ad A0 s s.heap) (hS : va_S A0 s.heap H locs) (hA : ∀ q, A1 q → A0 q) (hP : P H) (hrv : ∃ cellB : Cell, H[b]? = some cellB ∧ cellB.vm.isStatics = false ∧ s.vm.findClass C = some cellB.cls) (hst : st0 = As.reverse ++ .ref b :: rest) (hn : As.length = n) (hsize : ls.size = nL) (hW : (rest.map fun v => v.category).sum ≤ 8) (hdg : decode cc pc = .ok (.invokeinterface index count, 5)) (hf : cells + mc ≤ R.cells ∧ slots + ms ≤ R.slots)
    (kk : ∀ (r : Int32) (H1 : Heap) (locs1 : List Loc), Post r H1 → zF A1 H H1 → va_S A0 s.heap H1 locs1 → W p l e R s m args below meth c H1 locs1 (cells + mc) (slots + ms) Q (F0 m (pc + 5) ls (.int r :: rest))) : W p l e R s m args below meth c H locs cells slots Q (F0 m pc ls st0) :=
  va_callFi (va_runF (rest := rest) hat fix hM cw ⟨zP_blind, hrv, z_pre hC hS hA hP⟩ rfl hn hsize hst (lv_room hW) hdg hf) hS (fun q _ h => hA q h) hA (fun r u t H1 locs1 ht _ hru hB hz hk hS => by obtain rfl := hru; exact kk r H1 locs1 (by rw [← ht]; exact hB) ⟨hz, hk⟩ hS)
theorem z_cFr {Post : Nat → Heap → Prop} {P : Heap → Prop} (hat : ClassAt s C cC) (fix : CallFix p m c cc nL s args Ts own) (hM : Met l y ws rm (va_Pc (.ref b :: As) (zP D dA ad A1 H.size P)) (zQr Post A1) mc ms A1) (cw : va_CI R s args own C index x y bytes maxL ret ws rm mc ms n) (hC : Cx D dA ad A0 s s.heap) (hS : va_S A0 s.heap H locs) (hA : ∀ q, A1 q → A0 q) (hP : P H) (hrv : ∃ cellB : Cell, H[b]? = some cellB ∧ cellB.vm.isStatics = false ∧ s.vm.findClass C = some cellB.cls) (hst : st0 = As.reverse ++ .ref b :: rest) (hn : As.length = n) (hsize : ls.size = nL) (hW : (rest.map fun v => v.category).sum ≤ 8) (hdg : decode cc pc = .ok (.invokeinterface index count, 5)) (hf : cells + mc ≤ R.cells ∧ slots + ms ≤ R.slots)
    (kk : ∀ (r : Nat) (H1 : Heap) (locs1 : List Loc), Post r H1 → zF A1 H H1 → va_S A0 s.heap H1 locs1 → W p l e R s m args below meth c H1 locs1 (cells + mc) (slots + ms) Q (F0 m (pc + 5) ls (.ref r :: rest))) : W p l e R s m args below meth c H locs cells slots Q (F0 m pc ls st0) :=
  va_callFr (va_runF (rest := rest) hat fix hM cw ⟨zP_blind, hrv, z_pre hC hS hA hP⟩ rfl hn hsize hst (lv_room hW) hdg hf) hS (fun q _ h => hA q h) hA (fun u r t H1 locs1 ht _ _ hB hz hk hS => kk r H1 locs1 (by rw [← ht]; exact hB) ⟨hz, hk⟩ hS)
variable {owner host : String}
theorem z_cUi {Post : Int32 → Heap → Prop} {P : Heap → Prop} (fix : CallFix p m c cc nL s args Ts own) (hM : Met l y ws rm (va_Pc (.ref b :: As) (zP D dA ad A1 H.size P)) (zQi Post A1) mc ms A1) (cw : va_CU R s args own C owner index x y bytes maxL ret ws rm mc ms n) (hC : Cx D dA ad A0 s s.heap) (hS : va_S A0 s.heap H locs) (hA : ∀ q, A1 q → A0 q) (hP : P H) (hrv : ∃ cellB : Cell, H[b]? = some cellB ∧ cellB.vm.isStatics = false ∧ s.vm.findClass C = some cellB.cls) (hst : st0 = As.reverse ++ .ref b :: rest) (hn : As.length = n) (hsize : ls.size = nL) (hW : (rest.map fun v => v.category).sum ≤ 8) (hdg : decode cc pc = .ok (.invokevirtual index, 3)) (hf : cells + mc ≤ R.cells ∧ slots + ms ≤ R.slots)
    (kk : ∀ (r : Int32) (H1 : Heap) (locs1 : List Loc), Post r H1 → zF A1 H H1 → va_S A0 s.heap H1 locs1 → W p l e R s m args below meth c H1 locs1 (cells + mc) (slots + ms) Q (F0 m (pc + 3) ls (.int r :: rest))) : W p l e R s m args below meth c H locs cells slots Q (F0 m pc ls st0) :=
  va_calli (va_runU (rest := rest) fix hM cw ⟨zP_blind, hrv, z_pre hC hS hA hP⟩ rfl hn hsize hst (lv_room hW) hdg hf) hS (fun q _ h => hA q h) hA (fun r u t H1 locs1 ht _ hru hB hz hk hS => by obtain rfl := hru; exact kk r H1 locs1 (by rw [← ht]; exact hB) ⟨hz, hk⟩ hS)
theorem z_cUl {Post : Int64 → Heap → Prop} {P : Heap → Prop} (fix : CallFix p m c cc nL s args Ts own) (hM : Met l y ws rm (va_Pc (.ref b :: As) (zP D dA ad A1 H.size P)) (zQl Post A1) mc ms A1) (cw : va_CU R s args own C owner index x y bytes maxL ret ws rm mc ms n) (hC : Cx D dA ad A0 s s.heap) (hS : va_S A0 s.heap H locs) (hA : ∀ q, A1 q → A0 q) (hP : P H) (hrv : ∃ cellB : Cell, H[b]? = some cellB ∧ cellB.vm.isStatics = false ∧ s.vm.findClass C = some cellB.cls) (hst : st0 = As.reverse ++ .ref b :: rest) (hn : As.length = n) (hsize : ls.size = nL) (hW : (rest.map fun v => v.category).sum ≤ 8) (hdg : decode cc pc = .ok (.invokevirtual index, 3)) (hf : cells + mc ≤ R.cells ∧ slots + ms ≤ R.slots)
    (kk : ∀ (r : Int64) (H1 : Heap) (locs1 : List Loc), Post r H1 → zF A1 H H1 → va_S A0 s.heap H1 locs1 → W p l e R s m args below meth c H1 locs1 (cells + mc) (slots + ms) Q (F0 m (pc + 3) ls (.long r :: rest))) : W p l e R s m args below meth c H locs cells slots Q (F0 m pc ls st0) :=
  va_calll (va_runU (rest := rest) fix hM cw ⟨zP_blind, hrv, z_pre hC hS hA hP⟩ rfl hn hsize hst (lv_room hW) hdg hf) hS (fun q _ h => hA q h) hA (fun r u t H1 locs1 ht _ hru hB hz hk hS => by obtain rfl := hru; exact kk r H1 locs1 (by rw [← ht]; exact hB) ⟨hz, hk⟩ hS)
theorem z_cUv {Post : Heap → Prop} {P : Heap → Prop} (fix : CallFix p m c cc nL s args Ts own) (hM : Met l y ws rm (va_Pc (.ref b :: As) (zP D dA ad A1 H.size P)) (zQv Post A1) mc ms A1) (cw : va_CU R s args own C owner index x y bytes maxL ret ws rm mc ms n) (hC : Cx D dA ad A0 s s.heap) (hS : va_S A0 s.heap H locs) (hA : ∀ q, A1 q → A0 q) (hP : P H) (hrv : ∃ cellB : Cell, H[b]? = some cellB ∧ cellB.vm.isStatics = false ∧ s.vm.findClass C = some cellB.cls) (hst : st0 = As.reverse ++ .ref b :: rest) (hn : As.length = n) (hsize : ls.size = nL) (hW : (rest.map fun v => v.category).sum ≤ 8) (hdg : decode cc pc = .ok (.invokevirtual index, 3)) (hf : cells + mc ≤ R.cells ∧ slots + ms ≤ R.slots)
    (kk : ∀ (H1 : Heap) (locs1 : List Loc), Post H1 → zF A1 H H1 → va_S A0 s.heap H1 locs1 → W p l e R s m args below meth c H1 locs1 (cells + mc) (slots + ms) Q (F0 m (pc + 3) ls (rest))) : W p l e R s m args below meth c H locs cells slots Q (F0 m pc ls st0) :=
  va_callv (va_runU (rest := rest) fix hM cw ⟨zP_blind, hrv, z_pre hC hS hA hP⟩ rfl hn hsize hst (lv_room hW) hdg hf) hS (fun q _ h => hA q h) hA (fun u t H1 locs1 ht _ _ hB hz hk hS => kk H1 locs1 (by rw [← ht]; exact hB) ⟨hz, hk⟩ hS)
theorem z_cUr {Post : Nat → Heap → Prop} {P : Heap → Prop} (fix : CallFix p m c cc nL s args Ts own) (hM : Met l y ws rm (va_Pc (.ref b :: As) (zP D dA ad A1 H.size P)) (zQr Post A1) mc ms A1) (cw : va_CU R s args own C owner index x y bytes maxL ret ws rm mc ms n) (hC : Cx D dA ad A0 s s.heap) (hS : va_S A0 s.heap H locs) (hA : ∀ q, A1 q → A0 q) (hP : P H) (hrv : ∃ cellB : Cell, H[b]? = some cellB ∧ cellB.vm.isStatics = false ∧ s.vm.findClass C = some cellB.cls) (hst : st0 = As.reverse ++ .ref b :: rest) (hn : As.length = n) (hsize : ls.size = nL) (hW : (rest.map fun v => v.category).sum ≤ 8) (hdg : decode cc pc = .ok (.invokevirtual index, 3)) (hf : cells + mc ≤ R.cells ∧ slots + ms ≤ R.slots)
    (kk : ∀ (r : Nat) (H1 : Heap) (locs1 : List Loc), Post r H1 → zF A1 H H1 → va_S A0 s.heap H1 locs1 → W p l e R s m args below meth c H1 locs1 (cells + mc) (slots + ms) Q (F0 m (pc + 3) ls (.ref r :: rest))) : W p l e R s m args below meth c H locs cells slots Q (F0 m pc ls st0) :=
  va_callr (va_runU (rest := rest) fix hM cw ⟨zP_blind, hrv, z_pre hC hS hA hP⟩ rfl hn hsize hst (lv_room hW) hdg hf) hS (fun q _ h => hA q h) hA (fun u r t H1 locs1 ht _ _ hB hz hk hS => kk r H1 locs1 (by rw [← ht]; exact hB) ⟨hz, hk⟩ hS)
theorem z_cUq {Post : Option Nat → Heap → Prop} {P : Heap → Prop} (fix : CallFix p m c cc nL s args Ts own) (hM : Met l y ws rm (va_Pc (.ref b :: As) (zP D dA ad A1 H.size P)) (zQq Post A1) mc ms A1) (cw : va_CU R s args own C owner index x y bytes maxL ret ws rm mc ms n) (hC : Cx D dA ad A0 s s.heap) (hS : va_S A0 s.heap H locs) (hA : ∀ q, A1 q → A0 q) (hP : P H) (hrv : ∃ cellB : Cell, H[b]? = some cellB ∧ cellB.vm.isStatics = false ∧ s.vm.findClass C = some cellB.cls) (hst : st0 = As.reverse ++ .ref b :: rest) (hn : As.length = n) (hsize : ls.size = nL) (hW : (rest.map fun v => v.category).sum ≤ 8) (hdg : decode cc pc = .ok (.invokevirtual index, 3)) (hf : cells + mc ≤ R.cells ∧ slots + ms ≤ R.slots)
    (kk : ∀ (r : Option Nat) (H1 : Heap) (locs1 : List Loc), Post r H1 → zF A1 H H1 → va_S A0 s.heap H1 locs1 → W p l e R s m args below meth c H1 locs1 (cells + mc) (slots + ms) Q (F0 m (pc + 3) ls (va_rf r :: rest))) : W p l e R s m args below meth c H locs cells slots Q (F0 m pc ls st0) :=
  va_callq (va_runU (rest := rest) fix hM cw ⟨zP_blind, hrv, z_pre hC hS hA hP⟩ rfl hn hsize hst (lv_room hW) hdg hf) hS (fun q _ h => hA q h) hA (fun r u t H1 locs1 ht _ hru hB hz hk hS => by obtain rfl := hru; exact kk r H1 locs1 (by rw [← ht]; exact hB) ⟨hz, hk⟩ hS)
theorem z_cSUi {Post : Int32 → Heap → Prop} {P : Heap → Prop} (hat : ClassAt s C cC) (fix : CallFix p m c cc nL s args Ts own) (hM : Met l y ws rm (va_Pc (.ref b :: As) (zP D dA ad A1 H.size P)) (zQi Post A1) mc ms A1) (cw : va_CS R s args own index y bytes maxL ret ws rm mc ms n) (hC : Cx D dA ad A0 s s.heap) (hS : va_S A0 s.heap H locs) (hA : ∀ q, A1 q → A0 q) (hP : P H) (hrv : ∃ cellB : Cell, H[b]? = some cellB ∧ cellB.vm.isStatics = false ∧ s.vm.findClass C = some cellB.cls) (hst : st0 = As.reverse ++ .ref b :: rest) (hn : As.length = n) (hsize : ls.size = nL) (hW : (rest.map fun v => v.category).sum ≤ 8) (hdg : decode cc pc = .ok (.invokespecial index, 3)) (hf : cells + mc ≤ R.cells ∧ slots + ms ≤ R.slots)
    (kk : ∀ (r : Int32) (H1 : Heap) (locs1 : List Loc), Post r H1 → zF A1 H H1 → va_S A0 s.heap H1 locs1 → W p l e R s m args below meth c H1 locs1 (cells + mc) (slots + ms) Q (F0 m (pc + 3) ls (.int r :: rest))) : W p l e R s m args below meth c H locs cells slots Q (F0 m pc ls st0) :=
  va_calli (va_runSU (rest := rest) hat fix hM cw ⟨zP_blind, hrv, z_pre hC hS hA hP⟩ rfl hn hsize hst (lv_room hW) hdg hf) hS (fun q _ h => hA q h) hA (fun r u t H1 locs1 ht _ hru hB hz hk hS => by obtain rfl := hru; exact kk r H1 locs1 (by rw [← ht]; exact hB) ⟨hz, hk⟩ hS)
theorem z_cSUl {Post : Int64 → Heap → Prop} {P : Heap → Prop} (hat : ClassAt s C cC) (fix : CallFix p m c cc nL s args Ts own) (hM : Met l y ws rm (va_Pc (.ref b :: As) (zP D dA ad A1 H.size P)) (zQl Post A1) mc ms A1) (cw : va_CS R s args own index y bytes maxL ret ws rm mc ms n) (hC : Cx D dA ad A0 s s.heap) (hS : va_S A0 s.heap H locs) (hA : ∀ q, A1 q → A0 q) (hP : P H) (hrv : ∃ cellB : Cell, H[b]? = some cellB ∧ cellB.vm.isStatics = false ∧ s.vm.findClass C = some cellB.cls) (hst : st0 = As.reverse ++ .ref b :: rest) (hn : As.length = n) (hsize : ls.size = nL) (hW : (rest.map fun v => v.category).sum ≤ 8) (hdg : decode cc pc = .ok (.invokespecial index, 3)) (hf : cells + mc ≤ R.cells ∧ slots + ms ≤ R.slots)
    (kk : ∀ (r : Int64) (H1 : Heap) (locs1 : List Loc), Post r H1 → zF A1 H H1 → va_S A0 s.heap H1 locs1 → W p l e R s m args below meth c H1 locs1 (cells + mc) (slots + ms) Q (F0 m (pc + 3) ls (.long r :: rest))) : W p l e R s m args below meth c H locs cells slots Q (F0 m pc ls st0) :=
  va_calll (va_runSU (rest := rest) hat fix hM cw ⟨zP_blind, hrv, z_pre hC hS hA hP⟩ rfl hn hsize hst (lv_room hW) hdg hf) hS (fun q _ h => hA q h) hA (fun r u t H1 locs1 ht _ hru hB hz hk hS => by obtain rfl := hru; exact kk r H1 locs1 (by rw [← ht]; exact hB) ⟨hz, hk⟩ hS)
theorem z_cSUv {Post : Heap → Prop} {P : Heap → Prop} (hat : ClassAt s C cC) (fix : CallFix p m c cc nL s args Ts own) (hM : Met l y ws rm (va_Pc (.ref b :: As) (zP D dA ad A1 H.size P)) (zQv Post A1) mc ms A1) (cw : va_CS R s args own index y bytes maxL ret ws rm mc ms n) (hC : Cx D dA ad A0 s s.heap) (hS : va_S A0 s.heap H locs) (hA : ∀ q, A1 q → A0 q) (hP : P H) (hrv : ∃ cellB : Cell, H[b]? = some cellB ∧ cellB.vm.isStatics = false ∧ s.vm.findClass C = some cellB.cls) (hst : st0 = As.reverse ++ .ref b :: rest) (hn : As.length = n) (hsize : ls.size = nL) (hW : (rest.map fun v => v.category).sum ≤ 8) (hdg : decode cc pc = .ok (.invokespecial index, 3)) (hf : cells + mc ≤ R.cells ∧ slots + ms ≤ R.slots)
    (kk : ∀ (H1 : Heap) (locs1 : List Loc), Post H1 → zF A1 H H1 → va_S A0 s.heap H1 locs1 → W p l e R s m args below meth c H1 locs1 (cells + mc) (slots + ms) Q (F0 m (pc + 3) ls (rest))) : W p l e R s m args below meth c H locs cells slots Q (F0 m pc ls st0) :=
  va_callv (va_runSU (rest := rest) hat fix hM cw ⟨zP_blind, hrv, z_pre hC hS hA hP⟩ rfl hn hsize hst (lv_room hW) hdg hf) hS (fun q _ h => hA q h) hA (fun u t H1 locs1 ht _ _ hB hz hk hS => kk H1 locs1 (by rw [← ht]; exact hB) ⟨hz, hk⟩ hS)
theorem z_cSUr {Post : Nat → Heap → Prop} {P : Heap → Prop} (hat : ClassAt s C cC) (fix : CallFix p m c cc nL s args Ts own) (hM : Met l y ws rm (va_Pc (.ref b :: As) (zP D dA ad A1 H.size P)) (zQr Post A1) mc ms A1) (cw : va_CS R s args own index y bytes maxL ret ws rm mc ms n) (hC : Cx D dA ad A0 s s.heap) (hS : va_S A0 s.heap H locs) (hA : ∀ q, A1 q → A0 q) (hP : P H) (hrv : ∃ cellB : Cell, H[b]? = some cellB ∧ cellB.vm.isStatics = false ∧ s.vm.findClass C = some cellB.cls) (hst : st0 = As.reverse ++ .ref b :: rest) (hn : As.length = n) (hsize : ls.size = nL) (hW : (rest.map fun v => v.category).sum ≤ 8) (hdg : decode cc pc = .ok (.invokespecial index, 3)) (hf : cells + mc ≤ R.cells ∧ slots + ms ≤ R.slots)
    (kk : ∀ (r : Nat) (H1 : Heap) (locs1 : List Loc), Post r H1 → zF A1 H H1 → va_S A0 s.heap H1 locs1 → W p l e R s m args below meth c H1 locs1 (cells + mc) (slots + ms) Q (F0 m (pc + 3) ls (.ref r :: rest))) : W p l e R s m args below meth c H locs cells slots Q (F0 m pc ls st0) :=
  va_callr (va_runSU (rest := rest) hat fix hM cw ⟨zP_blind, hrv, z_pre hC hS hA hP⟩ rfl hn hsize hst (lv_room hW) hdg hf) hS (fun q _ h => hA q h) hA (fun u r t H1 locs1 ht _ _ hB hz hk hS => kk r H1 locs1 (by rw [← ht]; exact hB) ⟨hz, hk⟩ hS)
theorem z_cSUq {Post : Option Nat → Heap → Prop} {P : Heap → Prop} (hat : ClassAt s C cC) (fix : CallFix p m c cc nL s args Ts own) (hM : Met l y ws rm (va_Pc (.ref b :: As) (zP D dA ad A1 H.size P)) (zQq Post A1) mc ms A1) (cw : va_CS R s args own index y bytes maxL ret ws rm mc ms n) (hC : Cx D dA ad A0 s s.heap) (hS : va_S A0 s.heap H locs) (hA : ∀ q, A1 q → A0 q) (hP : P H) (hrv : ∃ cellB : Cell, H[b]? = some cellB ∧ cellB.vm.isStatics = false ∧ s.vm.findClass C = some cellB.cls) (hst : st0 = As.reverse ++ .ref b :: rest) (hn : As.length = n) (hsize : ls.size = nL) (hW : (rest.map fun v => v.category).sum ≤ 8) (hdg : decode cc pc = .ok (.invokespecial index, 3)) (hf : cells + mc ≤ R.cells ∧ slots + ms ≤ R.slots)
    (kk : ∀ (r : Option Nat) (H1 : Heap) (locs1 : List Loc), Post r H1 → zF A1 H H1 → va_S A0 s.heap H1 locs1 → W p l e R s m args below meth c H1 locs1 (cells + mc) (slots + ms) Q (F0 m (pc + 3) ls (va_rf r :: rest))) : W p l e R s m args below meth c H locs cells slots Q (F0 m pc ls st0) :=
  va_callq (va_runSU (rest := rest) hat fix hM cw ⟨zP_blind, hrv, z_pre hC hS hA hP⟩ rfl hn hsize hst (lv_room hW) hdg hf) hS (fun q _ h => hA q h) hA (fun r u t H1 locs1 ht _ hru hB hz hk hS => by obtain rfl := hru; exact kk r H1 locs1 (by rw [← ht]; exact hB) ⟨hz, hk⟩ hS)
theorem z_cVNi {Post : Int32 → Heap → Prop} {P : Heap → Prop} (fix : CallFix p m c cc nL s args Ts own) (hM : Met l y ws rm (va_Pc (.ref b :: As) (zP D dA ad A1 H.size P)) (zQi Post A1) mc ms A1) (cw : va_CN R s args own index y host bytes maxL ret ws rm mc ms n ∧ (Cond.instanceMethod y).before args s = true ∧ (Cond.selects C y y).before args s = true) (hC : Cx D dA ad A0 s s.heap) (hS : va_S A0 s.heap H locs) (hA : ∀ q, A1 q → A0 q) (hP : P H) (hrv : ∃ cellB : Cell, H[b]? = some cellB ∧ cellB.vm.isStatics = false ∧ s.vm.findClass C = some cellB.cls) (hst : st0 = As.reverse ++ .ref b :: rest) (hn : As.length = n) (hsize : ls.size = nL) (hW : (rest.map fun v => v.category).sum ≤ 8) (hdg : decode cc pc = .ok (.invokevirtual index, 3)) (hf : cells + mc ≤ R.cells ∧ slots + ms ≤ R.slots)
    (kk : ∀ (r : Int32) (H1 : Heap) (locs1 : List Loc), Post r H1 → zF A1 H H1 → va_S A0 s.heap H1 locs1 → W p l e R s m args below meth c H1 locs1 (cells + mc) (slots + ms) Q (F0 m (pc + 3) ls (.int r :: rest))) : W p l e R s m args below meth c H locs cells slots Q (F0 m pc ls st0) :=
  va_calli (va_runVN (rest := rest) fix hM cw ⟨zP_blind, hrv, z_pre hC hS hA hP⟩ rfl hn hsize hst (lv_room hW) hdg hf) hS (fun q _ h => hA q h) hA (fun r u t H1 locs1 ht _ hru hB hz hk hS => by obtain rfl := hru; exact kk r H1 locs1 (by rw [← ht]; exact hB) ⟨hz, hk⟩ hS)
theorem z_cVNl {Post : Int64 → Heap → Prop} {P : Heap → Prop} (fix : CallFix p m c cc nL s args Ts own) (hM : Met l y ws rm (va_Pc (.ref b :: As) (zP D dA ad A1 H.size P)) (zQl Post A1) mc ms A1) (cw : va_CN R s args own index y host bytes maxL ret ws rm mc ms n ∧ (Cond.instanceMethod y).before args s = true ∧ (Cond.selects C y y).before args s = true) (hC : Cx D dA ad A0 s s.heap) (hS : va_S A0 s.heap H locs) (hA : ∀ q, A1 q → A0 q) (hP : P H) (hrv : ∃ cellB : Cell, H[b]? = some cellB ∧ cellB.vm.isStatics = false ∧ s.vm.findClass C = some cellB.cls) (hst : st0 = As.reverse ++ .ref b :: rest) (hn : As.length = n) (hsize : ls.size = nL) (hW : (rest.map fun v => v.category).sum ≤ 8) (hdg : decode cc pc = .ok (.invokevirtual index, 3)) (hf : cells + mc ≤ R.cells ∧ slots + ms ≤ R.slots)
    (kk : ∀ (r : Int64) (H1 : Heap) (locs1 : List Loc), Post r H1 → zF A1 H H1 → va_S A0 s.heap H1 locs1 → W p l e R s m args below meth c H1 locs1 (cells + mc) (slots + ms) Q (F0 m (pc + 3) ls (.long r :: rest))) : W p l e R s m args below meth c H locs cells slots Q (F0 m pc ls st0) :=
  va_calll (va_runVN (rest := rest) fix hM cw ⟨zP_blind, hrv, z_pre hC hS hA hP⟩ rfl hn hsize hst (lv_room hW) hdg hf) hS (fun q _ h => hA q h) hA (fun r u t H1 locs1 ht _ hru hB hz hk hS => by obtain rfl := hru; exact kk r H1 locs1 (by rw [← ht]; exact hB) ⟨hz, hk⟩ hS)
theorem z_cVNv {Post : Heap → Prop} {P : Heap → Prop} (fix : CallFix p m c cc nL s args Ts own) (hM : Met l y ws rm (va_Pc (.ref b :: As) (zP D dA ad A1 H.size P)) (zQv Post A1) mc ms A1) (cw : va_CN R s args own index y host bytes maxL ret ws rm mc ms n ∧ (Cond.instanceMethod y).before args s = true ∧ (Cond.selects C y y).before args s = true) (hC : Cx D dA ad A0 s s.heap) (hS : va_S A0 s.heap H locs) (hA : ∀ q, A1 q → A0 q) (hP : P H) (hrv : ∃ cellB : Cell, H[b]? = some cellB ∧ cellB.vm.isStatics = false ∧ s.vm.findClass C = some cellB.cls) (hst : st0 = As.reverse ++ .ref b :: rest) (hn : As.length = n) (hsize : ls.size = nL) (hW : (rest.map fun v => v.category).sum ≤ 8) (hdg : decode cc pc = .ok (.invokevirtual index, 3)) (hf : cells + mc ≤ R.cells ∧ slots + ms ≤ R.slots)
    (kk : ∀ (H1 : Heap) (locs1 : List Loc), Post H1 → zF A1 H H1 → va_S A0 s.heap H1 locs1 → W p l e R s m args below meth c H1 locs1 (cells + mc) (slots + ms) Q (F0 m (pc + 3) ls (rest))) : W p l e R s m args below meth c H locs cells slots Q (F0 m pc ls st0) :=
  va_callv (va_runVN (rest := rest) fix hM cw ⟨zP_blind, hrv, z_pre hC hS hA hP⟩ rfl hn hsize hst (lv_room hW) hdg hf) hS (fun q _ h => hA q h) hA (fun u t H1 locs1 ht _ _ hB hz hk hS => kk H1 locs1 (by rw [← ht]; exact hB) ⟨hz, hk⟩ hS)
theorem z_cVNr {Post : Nat → Heap → Prop} {P : Heap → Prop} (fix : CallFix p m c cc nL s args Ts own) (hM : Met l y ws rm (va_Pc (.ref b :: As) (zP D dA ad A1 H.size P)) (zQr Post A1) mc ms A1) (cw : va_CN R s args own index y host bytes maxL ret ws rm mc ms n ∧ (Cond.instanceMethod y).before args s = true ∧ (Cond.selects C y y).before args s = true) (hC : Cx D dA ad A0 s s.heap) (hS : va_S A0 s.heap H locs) (hA : ∀ q, A1 q → A0 q) (hP : P H) (hrv : ∃ cellB : Cell, H[b]? = some cellB ∧ cellB.vm.isStatics = false ∧ s.vm.findClass C = some cellB.cls) (hst : st0 = As.reverse ++ .ref b :: rest) (hn : As.length = n) (hsize : ls.size = nL) (hW : (rest.map fun v => v.category).sum ≤ 8) (hdg : decode cc pc = .ok (.invokevirtual index, 3)) (hf : cells + mc ≤ R.cells ∧ slots + ms ≤ R.slots)
    (kk : ∀ (r : Nat) (H1 : Heap) (locs1 : List Loc), Post r H1 → zF A1 H H1 → va_S A0 s.heap H1 locs1 → W p l e R s m args below meth c H1 locs1 (cells + mc) (slots + ms) Q (F0 m (pc + 3) ls (.ref r :: rest))) : W p l e R s m args below meth c H locs cells slots Q (F0 m pc ls st0) :=
  va_callr (va_runVN (rest := rest) fix hM cw ⟨zP_blind, hrv, z_pre hC hS hA hP⟩ rfl hn hsize hst (lv_room hW) hdg hf) hS (fun q _ h => hA q h) hA (fun u r t H1 locs1 ht _ _ hB hz hk hS => kk r H1 locs1 (by rw [← ht]; exact hB) ⟨hz, hk⟩ hS)
theorem z_cVNq {Post : Option Nat → Heap → Prop} {P : Heap → Prop} (fix : CallFix p m c cc nL s args Ts own) (hM : Met l y ws rm (va_Pc (.ref b :: As) (zP D dA ad A1 H.size P)) (zQq Post A1) mc ms A1) (cw : va_CN R s args own index y host bytes maxL ret ws rm mc ms n ∧ (Cond.instanceMethod y).before args s = true ∧ (Cond.selects C y y).before args s = true) (hC : Cx D dA ad A0 s s.heap) (hS : va_S A0 s.heap H locs) (hA : ∀ q, A1 q → A0 q) (hP : P H) (hrv : ∃ cellB : Cell, H[b]? = some cellB ∧ cellB.vm.isStatics = false ∧ s.vm.findClass C = some cellB.cls) (hst : st0 = As.reverse ++ .ref b :: rest) (hn : As.length = n) (hsize : ls.size = nL) (hW : (rest.map fun v => v.category).sum ≤ 8) (hdg : decode cc pc = .ok (.invokevirtual index, 3)) (hf : cells + mc ≤ R.cells ∧ slots + ms ≤ R.slots)
    (kk : ∀ (r : Option Nat) (H1 : Heap) (locs1 : List Loc), Post r H1 → zF A1 H H1 → va_S A0 s.heap H1 locs1 → W p l e R s m args below meth c H1 locs1 (cells + mc) (slots + ms) Q (F0 m (pc + 3) ls (va_rf r :: rest))) : W p l e R s m args below meth c H locs cells slots Q (F0 m pc ls st0) :=
  va_callq (va_runVN (rest := rest) fix hM cw ⟨zP_blind, hrv, z_pre hC hS hA hP⟩ rfl hn hsize hst (lv_room hW) hdg hf) hS (fun q _ h => hA q h) hA (fun r u t H1 locs1 ht _ hru hB hz hk hS => by obtain rfl := hru; exact kk r H1 locs1 (by rw [← ht]; exact hB) ⟨hz, hk⟩ hS)
theorem z_cSNi {Post : Int32 → Heap → Prop} {P : Heap → Prop} (fix : CallFix p m c cc nL s args Ts own) (hM : Met l y ws rm (va_Pc As (zP D dA ad A1 H.size P)) (zQi Post A1) mc ms A1) (cw : va_CN R s args own index y host bytes maxL ret ws rm mc ms n ∧ (Cond.static y).before args s = true ∧ True) (hC : Cx D dA ad A0 s s.heap) (hS : va_S A0 s.heap H locs) (hA : ∀ q, A1 q → A0 q) (hP : P H) (hst : st0 = As.reverse ++ rest) (hn : As.length = n) (hsize : ls.size = nL) (hW : (rest.map fun v => v.category).sum ≤ 8) (hdg : decode cc pc = .ok (.invokestatic index, 3)) (hf : cells + mc ≤ R.cells ∧ slots + ms ≤ R.slots)
    (kk : ∀ (r : Int32) (H1 : Heap) (locs1 : List Loc), Post r H1 → zF A1 H H1 → va_S A0 s.heap H1 locs1 → W p l e R s m args below meth c H1 locs1 (cells + mc) (slots + ms) Q (F0 m (pc + 3) ls (.int r :: rest))) : W p l e R s m args below meth c H locs cells slots Q (F0 m pc ls st0) :=
  va_calli (va_runSN (rest := rest) fix hM cw ⟨zP_blind, z_pre hC hS hA hP⟩ rfl hn hsize hst (lv_room hW) hdg hf) hS (fun q _ h => hA q h) hA (fun r u t H1 locs1 ht _ hru hB hz hk hS => by obtain rfl := hru; exact kk r H1 locs1 (by rw [← ht]; exact hB) ⟨hz, hk⟩ hS)
theorem z_cSNl {Post : Int64 → Heap → Prop} {P : Heap → Prop} (fix : CallFix p m c cc nL s args Ts own) (hM : Met l y ws rm (va_Pc As (zP D dA ad A1 H.size P)) (zQl Post A1) mc ms A1) (cw : va_CN R s args own index y host bytes maxL ret ws rm mc ms n ∧ (Cond.static y).before args s = true ∧ True) (hC : Cx D dA ad A0 s s.heap) (hS : va_S A0 s.heap H locs) (hA : ∀ q, A1 q → A0 q) (hP : P H) (hst : st0 = As.reverse ++ rest) (hn : As.length = n) (hsize : ls.size = nL) (hW : (rest.map fun v => v.category).sum ≤ 8) (hdg : decode cc pc = .ok (.invokestatic index, 3)) (hf : cells + mc ≤ R.cells ∧ slots + ms ≤ R.slots)
    (kk : ∀ (r : Int64) (H1 : Heap) (locs1 : List Loc), Post r H1 → zF A1 H H1 → va_S A0 s.heap H1 locs1 → W p l e R s m args below meth c H1 locs1 (cells + mc) (slots + ms) Q (F0 m (pc + 3) ls (.long r :: rest))) : W p l e R s m args below meth c H locs cells slots Q (F0 m pc ls st0) :=
  va_calll (va_runSN (rest := rest) fix hM cw ⟨zP_blind, z_pre hC hS hA hP⟩ rfl hn hsize hst (lv_room hW) hdg hf) hS (fun q _ h => hA q h) hA (fun r u t H1 locs1 ht _ hru hB hz hk hS => by obtain rfl := hru; exact kk r H1 locs1 (by rw [← ht]; exact hB) ⟨hz, hk⟩ hS)
theorem z_cSNv {Post : Heap → Prop} {P : Heap → Prop} (fix : CallFix p m c cc nL s args Ts own) (hM : Met l y ws rm (va_Pc As (zP D dA ad A1 H.size P)) (zQv Post A1) mc ms A1) (cw : va_CN R s args own index y host bytes maxL ret ws rm mc ms n ∧ (Cond.static y).before args s = true ∧ True) (hC : Cx D dA ad A0 s s.heap) (hS : va_S A0 s.heap H locs) (hA : ∀ q, A1 q → A0 q) (hP : P H) (hst : st0 = As.reverse ++ rest) (hn : As.length = n) (hsize : ls.size = nL) (hW : (rest.map fun v => v.category).sum ≤ 8) (hdg : decode cc pc = .ok (.invokestatic index, 3)) (hf : cells + mc ≤ R.cells ∧ slots + ms ≤ R.slots)
    (kk : ∀ (H1 : Heap) (locs1 : List Loc), Post H1 → zF A1 H H1 → va_S A0 s.heap H1 locs1 → W p l e R s m args below meth c H1 locs1 (cells + mc) (slots + ms) Q (F0 m (pc + 3) ls (rest))) : W p l e R s m args below meth c H locs cells slots Q (F0 m pc ls st0) :=
  va_callv (va_runSN (rest := rest) fix hM cw ⟨zP_blind, z_pre hC hS hA hP⟩ rfl hn hsize hst (lv_room hW) hdg hf) hS (fun q _ h => hA q h) hA (fun u t H1 locs1 ht _ _ hB hz hk hS => kk H1 locs1 (by rw [← ht]; exact hB) ⟨hz, hk⟩ hS)
theorem z_cSNr {Post : Nat → Heap → Prop} {P : Heap → Prop} (fix : CallFix p m c cc nL s args Ts own) (hM : Met l y ws rm (va_Pc As (zP D dA ad A1 H.size P)) (zQr Post A1) mc ms A1) (cw : va_CN R s args own index y host bytes maxL ret ws rm mc ms n ∧ (Cond.static y).before args s = true ∧ True) (hC : Cx D dA ad A0 s s.heap) (hS : va_S A0 s.heap H locs) (hA : ∀ q, A1 q → A0 q) (hP : P H) (hst : st0 = As.reverse ++ rest) (hn : As.length = n) (hsize : ls.size = nL) (hW : (rest.map fun v => v.category).sum ≤ 8) (hdg : decode cc pc = .ok (.invokestatic index, 3)) (hf : cells + mc ≤ R.cells ∧ slots + ms ≤ R.slots)
    (kk : ∀ (r : Nat) (H1 : Heap) (locs1 : List Loc), Post r H1 → zF A1 H H1 → va_S A0 s.heap H1 locs1 → W p l e R s m args below meth c H1 locs1 (cells + mc) (slots + ms) Q (F0 m (pc + 3) ls (.ref r :: rest))) : W p l e R s m args below meth c H locs cells slots Q (F0 m pc ls st0) :=
  va_callr (va_runSN (rest := rest) fix hM cw ⟨zP_blind, z_pre hC hS hA hP⟩ rfl hn hsize hst (lv_room hW) hdg hf) hS (fun q _ h => hA q h) hA (fun u r t H1 locs1 ht _ _ hB hz hk hS => kk r H1 locs1 (by rw [← ht]; exact hB) ⟨hz, hk⟩ hS)
theorem z_cSNq {Post : Option Nat → Heap → Prop} {P : Heap → Prop} (fix : CallFix p m c cc nL s args Ts own) (hM : Met l y ws rm (va_Pc As (zP D dA ad A1 H.size P)) (zQq Post A1) mc ms A1) (cw : va_CN R s args own index y host bytes maxL ret ws rm mc ms n ∧ (Cond.static y).before args s = true ∧ True) (hC : Cx D dA ad A0 s s.heap) (hS : va_S A0 s.heap H locs) (hA : ∀ q, A1 q → A0 q) (hP : P H) (hst : st0 = As.reverse ++ rest) (hn : As.length = n) (hsize : ls.size = nL) (hW : (rest.map fun v => v.category).sum ≤ 8) (hdg : decode cc pc = .ok (.invokestatic index, 3)) (hf : cells + mc ≤ R.cells ∧ slots + ms ≤ R.slots)
    (kk : ∀ (r : Option Nat) (H1 : Heap) (locs1 : List Loc), Post r H1 → zF A1 H H1 → va_S A0 s.heap H1 locs1 → W p l e R s m args below meth c H1 locs1 (cells + mc) (slots + ms) Q (F0 m (pc + 3) ls (va_rf r :: rest))) : W p l e R s m args below meth c H locs cells slots Q (F0 m pc ls st0) :=
  va_callq (va_runSN (rest := rest) fix hM cw ⟨zP_blind, z_pre hC hS hA hP⟩ rfl hn hsize hst (lv_room hW) hdg hf) hS (fun q _ h => hA q h) hA (fun r u t H1 locs1 ht _ hru hB hz hk hS => by obtain rfl := hru; exact kk r H1 locs1 (by rw [← ht]; exact hB) ⟨hz, hk⟩ hS)
theorem z_cINv {Post : Heap → Prop} {P : Heap → Prop} (fix : CallFix p m c cc nL s args Ts own) (hM : Met l y ws rm (va_Pc (.ref b :: As) (zP D dA ad A1 H.size P)) (zQv Post A1) mc ms A1) (cw : va_CN R s args own index y host bytes maxL none ws rm mc ms n ∧ y.name = "<init>" ∧ (Cond.instanceMethod y).before args s = true) (hC : Cx D dA ad A0 s s.heap) (hS : va_S A0 s.heap H locs) (hA : ∀ q, A1 q → A0 q) (hP : P H) (hst : st0 = As.reverse ++ .ref b :: rest) (hn : As.length = n) (hsize : ls.size = nL) (hW : (rest.map fun v => v.category).sum ≤ 8) (hdg : decode cc pc = .ok (.invokespecial index, 3)) (hf : cells + mc ≤ R.cells ∧ slots + ms ≤ R.slots)
    (kk : ∀ (H1 : Heap) (locs1 : List Loc), Post H1 → zF A1 H H1 → va_S A0 s.heap H1 locs1 → W p l e R s m args below meth c H1 locs1 (cells + mc) (slots + ms) Q (F0 m (pc + 3) ls (rest))) : W p l e R s m args below meth c H locs cells slots Q (F0 m pc ls st0) :=
  va_callv (va_runIN (rest := rest) fix hM cw ⟨zP_blind, z_pre hC hS hA hP⟩ rfl hn hsize hst (lv_room hW) hdg hf) hS (fun q _ h => hA q h) hA (fun u t H1 locs1 ht _ _ hB hz hk hS => kk H1 locs1 (by rw [← ht]; exact hB) ⟨hz, hk⟩ hS)
/-- a default method of an interface, on a receiver of a known class -/
theorem z_cDi {Post : Int32 → Heap → Prop} {P : Heap → Prop} (hat : ClassAt s C cC) (fix : CallFix p m c cc nL s args Ts own) (hM : Met l y ws rm (va_Pc (.ref b :: As) (zP D dA ad A1 H.size P)) (zQi Post A1) mc ms A1)
    (hrc : rm.cells = mc) (hrs : rm.slots = ms) (hR : rm.frames + 1 ≤ R.frames ∧ 8 + (maxL + 11) + rm.locals ≤ R.locals) (hts : ∀ w ∈ lw_all, w.before args s = true) (hws : ws = ws_ y bytes maxL ret) (hcw : Cond.code y bytes maxL ret ∈ lw_all) (hlink : (Cond.methodLink own index x).before args s = true) (hF : va_Fw C x y s) (hsel : va_Nw (.landsInDefault C x y) s) (hinst : (Cond.instanceMethod y).before args s = true) (hini : (Cond.initialized y.cls).before args s = true) (hmh : x.cls ≠ "java/lang/invoke/MethodHandle" ∧ x.cls ≠ "java/lang/invoke/VarHandle") (hlen : (parseMethodDescriptor x.desc).map (fun d => d.parameters.length) = some n)
    (hC : Cx D dA ad A0 s s.heap) (hS : va_S A0 s.heap H locs) (hA : ∀ q, A1 q → A0 q) (hP : P H) (hrv : ∃ cellB : Cell, H[b]? = some cellB ∧ cellB.vm.isStatics = false ∧ s.vm.findClass C = some cellB.cls) (hst : st0 = As.reverse ++ .ref b :: rest) (hn : As.length = n) (hsize : ls.size = nL) (hW : (rest.map fun v => v.category).sum ≤ 8) (hdg : decode cc pc = .ok (.invokeinterface index count, 5)) (hf : cells + mc ≤ R.cells ∧ slots + ms ≤ R.slots)
    (kk : ∀ (r : Int32) (H1 : Heap) (locs1 : List Loc), Post r H1 → zF A1 H H1 → va_S A0 s.heap H1 locs1 → W p l e R s m args below meth c H1 locs1 (cells + mc) (slots + ms) Q (F0 m (pc + 5) ls (.int r :: rest))) : W p l e R s m args below meth c H locs cells slots Q (F0 m pc ls st0) := by
  have hrun : va_Run5 p l e R s m args below meth c H locs cells slots mc ms (F0 m pc ls st0) rest (zQi Post A1 (Value.ref b :: As).toArray) A1 := by
    have hG : GoodIn lw_all ws := by rw [hws]; exact lw_meth hcw
    have hcin : Cond.code y bytes maxL ret ∈ ws := by rw [hws]; exact List.mem_cons_self
    have hp : PreV s H C b (va_Pc (.ref b :: As) (zP D dA ad A1 H.size P)) As := ⟨zP_blind, hrv, z_pre hC hS hA hP⟩
    have hK : Back l R p e below s args y 5 8 (PreOf R mc ms (va_Pc (.ref b :: As) (zP D dA ad A1 H.size P))) (PostOf (zQi Post A1) mc ms A1) := back_of (bytes := bytes) (maxL := maxL) (ret := ret) hM hp.1 hrc hrs hR.1 hR.2 (pay_in hts hG) hcin (fun a' U hW => word_at hW (Or.inl (by first | rfl | simp [Cond.onTables, Cond.keeps, Cond.steady])) hini)
    obtain ⟨hx, hb, hml, ho, -⟩ := fix
    obtain ⟨-, ⟨cellB, hcB, hoB, hclB⟩, hPc⟩ := hp
    obtain ⟨hfc, kB, hkB, -⟩ := hat
    cases hfc.symm.trans hclB
    intro T hT X
    obtain ⟨v, vm₁, ⟨U', l2, c2, s2⟩, hW₁, X', ⟨g', mk, t, L, e1, e2, hq, h1, hL, h2, h3⟩, st⟩ := X.interfaceBackD hx (C := C) (own := own) (index := index) (count := count) (xi := x) (y := y) ho hlink (va_any rfl hF.1) (va_any rfl hF.2.1) (va_tabD rfl hsel) hinst (va_any rfl hF.2.2.1) (va_any rfl hF.2.2.2.2) hmh hK (b := b) hclB hkB ⟨cellB, by rw [hT]; exact hcB, rfl, hoB⟩ (g := F0 m pc ls st0) rfl (hsize.trans hml.symm) (Steps.refl _) (argsL := As) (rest := rest) (fun sig h => by rw [h] at hlen; exact hn.trans (Option.some.inj hlen).symm) hst (lv_room hW) (by rw [hb]; exact hdg)
      (fun vm₁ hW₁ => ⟨hf.1, hf.2, hPc (T.setVm vm₁) hT hW₁⟩)
    dsimp only [Pt.U, Pt.locs, Pt.cells, Pt.slots] at X' e1 e2 h1 h2 h3 st
    subst h1; subst h2; subst h3
    exact ⟨v, (T.setVm vm₁).calling g' mk (Value.ref b :: As).toArray, t, U', L, hT, X', hL, e1, e2, hq, fun target h => st.trans h⟩
  exact va_callFi hrun hS (fun q _ h => hA q h) hA (fun r u t H1 locs1 ht _ hru hB hz hk hS => by obtain rfl := hru; exact kk r H1 locs1 (by rw [← ht]; exact hB) ⟨hz, hk⟩ hS)
/-- what a call of an inherited method asks; what the selection asks is told apart -/
theorem z_cwU {own C owner : String} {index maxL mc ms : Nat} {x y : MethodName} {bytes : ByteArray} {ret : Option FieldType} {rm : Room} (n : Nat) (ht : ∀ w ∈ lw_all, w.before args s = true) (h1 : Cond.methodLink own index x ∈ lw_all) (h2 : Cond.sameMethod x.cls owner x.name x.desc ∈ lw_all) (h3 : Cond.instanceMethod y ∈ lw_all) (h4 : Cond.initialized y.cls ∈ lw_all) (h5 : Cond.code y bytes maxL ret ∈ lw_all) (hsel : (Cond.selects C x y).before args s = true) (hrc : rm.cells = mc) (hrs : rm.slots = ms)
    (hyx : y = ⟨owner, x.name, x.desc⟩) (hd : owner ≠ "java/lang/invoke/MethodHandle" ∧ owner ≠ "java/lang/invoke/VarHandle" ∧ (parseMethodDescriptor x.desc).map (fun d => d.parameters.length) = some n) (hR : rm.frames + 1 ≤ R.frames ∧ 8 + (maxL + 11) + rm.locals ≤ R.locals) : va_CU R s args own C owner index x y bytes maxL ret (ws_ y bytes maxL ret) rm mc ms n := by
  refine ⟨⟨hrc, hrs, hR.1, hR.2, pay_in ht (lw_meth h5), List.mem_cons_self⟩, ht _ h5, ht _ h4, ⟨hd.1, hd.2.1⟩, fun sig h => ?_, ht _ h1, ht _ h2, by rw [← hyx]; exact va_Decl.of (ht _ h3) (ht _ h5), hsel, ht _ h3⟩
  have h2 := hd.2.2
  rw [h] at h2
  exact (Option.some.inj h2).symm
theorem lw_SU {own : String} {idx : Nat} {y : MethodName} {b : ByteArray} {L : Nat} {r : Option FieldType} (h1 : Cond.methodLink own idx y ∈ lw_all) (h2 : Cond.sameMethod y.cls y.cls y.name y.desc ∈ lw_all) (h3 : Cond.superclass own y.cls ∈ lw_all) (h4 : Cond.instanceMethod y ∈ lw_all) (h5 : Cond.initialized y.cls ∈ lw_all) (h6 : Cond.code y b L r ∈ lw_all) : GoodIn lw_all (va_wsSU own idx y (ws_ y b L r)) := by
  refine lw_app ?_ (lw_meth h6)
  intro w hw
  simp only [List.mem_cons, List.not_mem_nil, or_false] at hw
  rcases hw with e | e | e | e | e
  · rw [e]; exact h1
  · rw [e]; exact h2
  · rw [e]; exact h3
  · rw [e]; exact h4
  · rw [e]; exact h5
end ZF
/-- an object of a class, that nobody changes -/
def ObV (D : va_G) (ci : Nat) (A : Nat → Prop) (y : Nat) (H : Heap) : Prop := ∃ vs : List Value, ¬ A y ∧ va_at D vwCl (y, .inr (ci, vs)) H
theorem ObV.kept {D : va_G} {ci : Nat} {A : Nat → Prop} {y : Nat} {H0 H : Heap} {locs : List Loc} (h : ObV D ci A y H0) (hS : va_S A H0 H locs) : ObV D ci A y H := by
  obtain ⟨vs, h2, h3⟩ := h
  exact ⟨vs, h2, h3.kept (hS.2.1 y h3.lt h2)⟩
theorem ObV.narrow {D : va_G} {ci : Nat} {A B : Nat → Prop} {y : Nat} {H : Heap} (h : ObV D ci A y H) (hAB : ∀ q, B q → A q) : ObV D ci B y H := by
  obtain ⟨vs, h2, h3⟩ := h
  exact ⟨vs, fun q => h2 (hAB y q), h3⟩
theorem ObV.anyS {D : va_G} {dA : Nat → ClassId} {ad : Nat → Nat} {A A2 : Nat → Prop} {s : State} {H0 H : Heap} (hC : Cx D dA ad A s H0) {y : Nat} (h : ObV D 1 A2 y H) : va_Any "java/lang/Object" s H y := by
  obtain ⟨vs, -, h3⟩ := h
  exact va_rAny hC.K (ws := [(y, .inr (1, vs))]) (fun k q hk => by match k, hk with | 0, hk => cases hk; exact h3 | k + 1, hk => simp at hk) (q0 := 0) rfl (ci := 1) rfl (fun comp c0 h1 h2 => vb_asgC (Cx.nC hC (t := ("FencedStandbys$Store", "java/lang/Object")) (List.mem_of_getElem? (i := 11) rfl)) comp c0 h1 h2)
def i17 (i : Nat) : Nat := if i + 1 < 17 then i + 1 else 0
def d17 (i : Nat) : Nat := if i = 0 then 16 else i - 1
def s17 (i j : Nat) : Nat := if j ≤ i then i - j else i + 17 - j
theorem i17_lt (i : Nat) : i17 i < 17 := by unfold i17; split <;> omega
theorem d17_lt {i : Nat} (h : i < 17) : d17 i < 17 := by unfold d17; split <;> omega
theorem va_Zq.ex {C n d : String} {A : Nat → Prop} {U : State} {H : Heap} (h : va_Zq C n d A U H) : ∃ q : Option Nat, va_Z C n d (va_rf q) A U H := by
  rcases h with h | ⟨t, h⟩
  · exact ⟨none, h⟩
  · exact ⟨some t, h⟩
theorem sLen_ok : ∀ i, i < 7 → (sByt.getD i []).length = sLen.getD i 0 ∧ sLen.getD i 0 ≤ 7 := by decide
theorem shr0 {n : Nat} (h : n < 2 ^ 31) : nI n >>> (nI 0 &&& 31) = nI n := by
  rw [pk_shrN h _ 0 (by decide), Nat.pow_zero, Nat.div_one]
theorem shl0 {n : Nat} : nI n <<< (nI 0 &&& 31) = nI n := by
  apply Int32.toBitVec_inj.1
  simp [nI]
theorem i2b_n {k : Nat} (h : k < 128) : (nI k).toInt8.toInt32 = nI k := by
  have : ∀ k, k < 128 → (nI k).toInt8.toInt32 = nI k := by decide +kernel
  exact this k h
theorem sByt_ok : ∀ i, i < 7 → ∀ k, k < (sByt.getD i []).length → (∃ n, n < 128 ∧ (sByt.getD i []).getD k 0 = nI n) ∧ (((sByt.getD i []).getD k 0 &&& nI 255).toUInt32 % 65536).toInt32 = (sByt.getD i []).getD k 0 ∧ narrow .char (.int ((sByt.getD i []).getD k 0)) = .int ((sByt.getD i []).getD k 0) := by decide +kernel
theorem sNe_step {b : List Int32} {x : Nat} {y : Int32} (h : ∀ j, j < x → b.getD j 0 ≠ y) (h1 : ¬ b.getD x 0 = y) : ∀ j, j < x + 1 → b.getD j 0 ≠ y := by
  intro j hj
  by_cases e : j = x
  · rw [e]; exact h1
  · exact h j (by omega)
theorem sIdx_in {b : List Int32} {x L : Nat} {y : Int32} (h1 : x < L) (h2 : L ≤ 7) (h3 : b.length = L) (h : b.getD x 0 = y) : nI x < 0 ↔ y ∉ b := by
  have h5 : ¬ nI x < 0 := nI_pos (by omega)
  refine ⟨fun q => absurd q h5, fun q => absurd ?_ q⟩
  have : x < b.length := by omega
  rw [← h, List.getD_eq_getElem?_getD, List.getElem?_eq_getElem this]
  exact List.getElem_mem this
theorem sIdx_out {b : List Int32} {x L : Nat} {y : Int32} (h3 : b.length = L) (h : ∀ j, j < x → b.getD j 0 ≠ y) (h1 : L ≤ x) : (-1 : Int32) < 0 ↔ y ∉ b := by
  refine ⟨fun _ q => ?_, fun _ => by decide⟩
  obtain ⟨j, hj, e⟩ := List.getElem_of_mem q
  refine h j (by omega) ?_
  rw [List.getD_eq_getElem?_getD, List.getElem?_eq_getElem hj]
  exact e
theorem subI_le {a b : Nat} (h : a ≤ b) (hb : b < 2 ^ 30) : nI a - nI b ≤ 0 := by
  rcases Nat.lt_or_ge a b with q | q
  · exact Int32.le_of_lt (pk_sneg hb q)
  · rw [show a = b by omega, Int32.sub_self]; decide
/-- all bytes of a builder: small, no sign -/
def ByG (g : Nat → Int32) (cap : Nat) : Prop := ∀ j, j < cap → ∃ k, k < 128 ∧ g j = nI k
theorem byfit {k : Nat} (h : k < 128) : fits .byte (.int (nI k)) = true := by
  have : ∀ k, k < 128 → fits .byte (.int (nI k)) = true := by decide +kernel
  exact this k h
theorem bynar {k : Nat} (h : k < 128) : vp_nar .byte (nI k) = nI k := by
  have : ∀ k, k < 128 → vp_nar .byte (nI k) = nI k := by decide +kernel
  exact this k h
theorem by255 {k : Nat} (h : k < 128) : ((nI k &&& nI 255).toUInt32 % 65536).toInt32 = nI k ∧ narrow .char (.int (nI k)) = .int (nI k) := by
  have : ∀ k, k < 128 → ((nI k &&& nI 255).toUInt32 % 65536).toInt32 = nI k ∧ narrow .char (.int (nI k)) = .int (nI k) := by decide +kernel
  exact this k h
section ZB
variable {p : Program} {l : Launch} {e : Env} {R : Room} {s : State} {m : MethodId} {args : Array Value} {below : List Frame} {meth : Method} {c : Code} {H : Heap} {locs : List Loc} {cells slots : Nat} {Q : State → Prop}
variable {cc : ByteArray} {pc : Nat} {ls : Array Slot} {rest : List Value} {D : va_G} {dA : Nat → ClassId} {ad : Nat → Nat} {A : Nat → Prop}
/-- a loop that makes things: what it used up goes by the invariant's place -/
theorem z_loopC {σ : Type} (cf sf : σ → Nat) (μ : σ → Nat) (I : σ → Heap → List Loc → Array Slot → Prop) (x0 : σ) (hc0 : cells ≤ cf x0) (hs0 : slots ≤ sf x0) (h0 : I x0 H locs ls)
    (step : ∀ (x : σ) (H : Heap) (locs : List Loc) (ls : Array Slot), I x H locs ls → (∀ (x' : σ) (H' : Heap) (locs' : List Loc) (ls' : Array Slot) (c' s' : Nat), I x' H' locs' ls' → μ x' < μ x → c' ≤ cf x' → s' ≤ sf x' → W p l e R s m args below meth c H' locs' c' s' Q (F0 m pc ls' [])) → W p l e R s m args below meth c H locs (cf x) (sf x) Q (F0 m pc ls [])) :
    W p l e R s m args below meth c H locs cells slots Q (F0 m pc ls []) := by
  have key : ∀ (n : Nat) (x : σ) (H : Heap) (locs : List Loc) (ls : Array Slot), μ x < n → I x H locs ls → W p l e R s m args below meth c H locs (cf x) (sf x) Q (F0 m pc ls []) := by
    intro n
    induction n with
    | zero => intro x H locs ls h; exact absurd h (by omega)
    | succ n ih =>
      intro x H locs ls h hI
      exact step x H locs ls hI (fun x' H' locs' ls' c' s' h' hl hc hs => W.widen hc hs (ih x' H' locs' ls' (by omega) h'))
  exact W.widen hc0 hs0 (key (μ x0 + 1) x0 H locs ls (by omega) h0)
/-- bytes from one builder's array to another -/
theorem z_copyb {own : String} {index : Nat} {ws wz : va_W} {a0 a q1 q0 N nS nD : Nat} {f g : Nat → Int32}
    (hx : p.tables.exec = Jvm.exec) (hb : c.code = cc) (hml : c.maxLocals = ls.size) (hown : s.vm.findClass own = some m.cls) (hlink : (Cond.methodLink own index arraycopyName).before args s = true) (hnat : (Cond.native arraycopyName).before args s = true) (hstat : (Cond.static arraycopyName).before args s = true) (hini : (Cond.initialized "java/lang/System").before args s = true)
    (hC : Cx D dA ad A s s.heap) (hP : va_P D vwCl ws H) (hD : va_D A ws) (hS : va_S A s.heap H locs) (hZ : va_P D vwCl wz H) (hsrc : wz[q0]? = some (a0, .inl (dA 2, nS, .inl f))) (he : ws[q1]? = some (a, .inl (dA 2, nD, .inl g)))
    (h4 : N ≤ nS) (h5 : N ≤ nD) (hN : N < 2 ^ 31) (hG : ByG f N)
    (hframes : 1 ≤ R.frames) (hlocals : (rest.map fun v => v.category).sum + (nativeFrameWords "java/lang/System" "arraycopy" 5 + 11) ≤ R.locals) (hdg : decode cc pc = .ok (.invokestatic index, 3))
    (kk : ∀ (H1 : Heap) (locs1 : List Loc), va_P D vwCl (ws.set q1 (a, .inl (dA 2, nD, .inl (va_cpy f g 0 0 N)))) H1 → va_D A (ws.set q1 (a, .inl (dA 2, nD, .inl (va_cpy f g 0 0 N)))) → va_S A s.heap H1 locs1 → W p l e R s m args below meth c H1 locs1 cells slots Q (F0 m (pc + 3) ls rest)) :
    W p l e R s m args below meth c H locs cells slots Q (F0 m pc ls (.int (nI N) :: .int (nI 0) :: .ref a :: .int (nI 0) :: .ref a0 :: rest)) := by
  obtain ⟨k3, comp, hk3, hkk3⟩ := z_kind hC.K (t := 2) (q := (dA 2, .byte)) rfl
  refine z_copyA (fun z => .int z) hx hb hml hown hlink hnat hstat hini hP hD hS (hZ q0 _ hsrc) he (vp_cell_i _ _ _) (x2 := (nD, .inl (va_cpy f g 0 0 N))) (vp_cell_i _ _ _) hk3 hk3 hkk3 hkk3 rfl h4 h5 hN ?_ hframes hlocals hdg kk
  intro T vm₁ hT hal i hi
  obtain ⟨k, hk, e⟩ := hG i hi
  rw [e]
  exact ⟨byfit hk, trivial⟩
/-- longs from one set's words to another's -/
theorem z_copyl {own : String} {index : Nat} {ws wz : va_W} {a0 a q1 q0 N nS nD : Nat} {f g : Nat → Int64}
    (hx : p.tables.exec = Jvm.exec) (hb : c.code = cc) (hml : c.maxLocals = ls.size) (hown : s.vm.findClass own = some m.cls) (hlink : (Cond.methodLink own index arraycopyName).before args s = true) (hnat : (Cond.native arraycopyName).before args s = true) (hstat : (Cond.static arraycopyName).before args s = true) (hini : (Cond.initialized "java/lang/System").before args s = true)
    (hC : Cx D dA ad A s s.heap) (hP : va_P D vwCl ws H) (hD : va_D A ws) (hS : va_S A s.heap H locs) (hZ : va_P D vwCl wz H) (hsrc : wz[q0]? = some (a0, .inl (dA 1, nS, .inr (.inl f)))) (he : ws[q1]? = some (a, .inl (dA 1, nD, .inr (.inl g))))
    (h4 : N ≤ nS) (h5 : N ≤ nD) (hN : N < 2 ^ 31)
    (hframes : 1 ≤ R.frames) (hlocals : (rest.map fun v => v.category).sum + (nativeFrameWords "java/lang/System" "arraycopy" 5 + 11) ≤ R.locals) (hdg : decode cc pc = .ok (.invokestatic index, 3))
    (kk : ∀ (H1 : Heap) (locs1 : List Loc), va_P D vwCl (ws.set q1 (a, .inl (dA 1, nD, .inr (.inl (va_cpy f g 0 0 N))))) H1 → va_D A (ws.set q1 (a, .inl (dA 1, nD, .inr (.inl (va_cpy f g 0 0 N))))) → va_S A s.heap H1 locs1 → W p l e R s m args below meth c H1 locs1 cells slots Q (F0 m (pc + 3) ls rest)) :
    W p l e R s m args below meth c H locs cells slots Q (F0 m pc ls (.int (nI N) :: .int (nI 0) :: .ref a :: .int (nI 0) :: .ref a0 :: rest)) := by
  obtain ⟨k3, comp, hk3, hkk3⟩ := z_kind hC.K (t := 1) (q := (dA 1, .long)) rfl
  refine z_copyA (fun z => .long z) hx hb hml hown hlink hnat hstat hini hP hD hS (hZ q0 _ hsrc) he (vp_cell_l _ _ _) (x2 := (nD, .inr (.inl (va_cpy f g 0 0 N)))) (vp_cell_l _ _ _) hk3 hk3 hkk3 hkk3 rfl h4 h5 hN ?_ hframes hlocals hdg kk
  intro T vm₁ hT hal i hi
  exact ⟨rfl, trivial⟩
end ZB
/-- a note is of the class Note -/
theorem NtV.recv {D : va_G} {dA : Nat → ClassId} {ad : Nat → Nat} {A A2 : Nat → Prop} {s : State} {H0 H : Heap} (hC : Cx D dA ad A s H0) {y : Nat} (h : NtV D A2 y H) : ∃ cell : Cell, H[y]? = some cell ∧ cell.vm.isStatics = false ∧ s.vm.findClass RX6 = some cell.cls := by
  obtain ⟨vs, -, h3⟩ := h
  exact va_recv hC.K (ws := [(y, .inr (6, vs))]) (fun k q hk => by match k, hk with | 0, hk => cases hk; exact h3 | k + 1, hk => simp at hk) (ci := 6) (q0 := 0) rfl rfl
def tld (a b c d e : Int32) (i : Nat) : Int32 := if i = 0 then a else if i = 1 then b else if i = 2 then c else if i = 3 then d else e
