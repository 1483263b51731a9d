/-! Throwable's constructors: the trace isn't kept -/
section FIL
variable {p : Program} {l : Launch} {e : Env} {R : Room} {s : State} {m : MethodId} {args : Array Value} {below : List Frame} {meth : Method} {c : Code} {H : Heap} {locs : List Loc} {cells slots : Nat} {Q : State → Prop}
variable {cc : ByteArray} {pc : Nat} {ls : Array Slot} {rest st0 : List Value} {D : va_G} {dA : Nat → ClassId} {ad : Nat → Nat} {A : Nat → Prop}
theorem z_thrAtoms (hts : ∀ w ∈ lw_all, w.before args s = true) (hC : Cx D dA ad A s s.heap) : ∀ w ∈ Bundle.throwableAtoms, w.before args s = true := by
  intro w hw
  simp only [Bundle.throwableAtoms, List.mem_cons, List.not_mem_nil, or_false] at hw
  rcases hw with rfl | rfl | rfl | rfl | rfl | rfl | rfl | rfl | rfl | rfl | rfl | rfl | rfl | rfl | rfl | rfl | rfl | rfl | rfl | rfl | rfl | rfl | rfl | rfl
  · exact hts _ q76
  · exact hts _ q574
  · exact hts _ q583
  · exact hts _ q586
  · exact hts _ q589
  · exact hts _ q591
  · exact hts _ q575
  · exact hts _ q576
  · exact hts _ q92
  · exact hts _ q93
  · exact hts _ q577
  · exact hts _ q582
  · exact hts _ q587
  · exact hts _ q608
  · exact hts _ q564
  · exact hts _ q609
  · exact hts _ q566
  · exact hts _ q610
  · exact hts _ q568
  · exact hts _ q578
  · exact hC.lU.word
  · exact hts _ q580
  · exact hC.lN.word
  · exact hts _ q570
set_option maxHeartbeats 4000000 in
theorem z_fill {wz : va_W} {a ci q0 N : Nat} {E : String} {TT : u_T} {vs : List Value} {u : Value}
    (hx : p.tables.exec = Jvm.exec) (hb : c.code = cc) (hml : c.maxLocals = ls.size) (hl : l.stackTraces = false) (hown : s.vm.findClass "java/lang/Throwable" = some m.cls) (hts : ∀ w ∈ lw_all, w.before args s = true)
    (hC : Cx D dA ad A s s.heap) (hP : va_P D vwCl wz H) (hS : va_S A s.heap H locs) (he : wz[q0]? = some (a, .inr (ci, vs))) (hc : vwCl[ci]? = some (E, TT, N)) (hN : 5 ≤ N)
    (hT1 : TT 1 = ("java/lang/Throwable", "stackTrace", "[Ljava/lang/StackTraceElement;", false)) (hT4 : TT 4 = ("java/lang/Throwable", "backtrace", "Ljava/lang/Object;", false)) (hin : ∀ w ∈ u_ws E TT N, w ∈ lw_all)
    (hselF : (Cond.selects E Bundle.tFill Bundle.tFill).before args s = true) (hsel0 : (Cond.selects E Bundle.tFill0 Bundle.tFill0).before args s = true)
    (hu : vs[1]? = some u) (hbk : vs[4]? = some .null) (hZ : va_Z "java/lang/Throwable" "UNASSIGNED_STACK" "[Ljava/lang/StackTraceElement;" u A s s.heap) (hur : u.isRef = true) (hM : MonF a H)
    (hRf : 2 < R.frames) (hRl : (rest.map fun v => v.category).sum + 60 ≤ R.locals)
    (hdg : decode cc pc = .ok (.invokevirtual 27, 3))
    (kk : W p l e R s m args below meth c H locs cells slots Q (F0 m (pc + 3) ls (.ref a :: rest))) : W p l e R s m args below meth c H locs cells slots Q (F0 m pc ls (.ref a :: rest)) := by
  intro T hT X
  have htr : e.platform.stackTraces = false := (show e.platform.stackTraces = l.stackTraces by rw [X.admits.platform]).trans hl
  have howns : e.platform.frameOwnsMonitors = true := by rw [X.admits.platform]
  have hfin : e.platform.finalization = false := by rw [X.admits.platform]
  have hpl : e.platform.magicAccessors = ({} : Platform).magicAccessors := by rw [X.admits.platform]
  obtain ⟨TC, Z0, L, -, Y⟩ := ThrowableC.of_atoms (args := args) (s := s) howns hfin hpl (z_thrAtoms hts hC)
  obtain ⟨q', h1, cell, g1, g2, g3, g4⟩ := hP q0 _ he
  have hr : q' = (E, TT, N) := Option.some.inj (h1.symm.trans hc)
  subst hr
  obtain ⟨cell9, m1, m2, m3⟩ := hM
  have e9 : cell9 = cell := Option.some.inj (m1.symm.trans g1)
  subst e9
  have hcell : T.heap[a]? = some cell9 := by rw [hT]; exact g1
  obtain ⟨hSl, hfc, kC, hkC, hkind⟩ := hC.K.1 ci _ hc
  have hcls : s.vm.findClass E = some cell9.cls := by rw [g2]; exact hfc
  have hY := Y.stack
  obtain ⟨cf, kf, fi, f1, hi1, hs1⟩ := hSl 1 (by show 1 < N; omega)
  have hi1' : s.fieldFound? "java/lang/Throwable" "stackTrace" "[Ljava/lang/StackTraceElement;" = some (cf, kf, fi, f1) := by
    have q : s.fieldFound? (TT 1).1 (TT 1).2.1 (TT 1).2.2.1 = some (cf, kf, fi, f1) := hi1
    rw [hT1] at q; exact q
  have e1 := Option.some.inj (hY.symm.trans hi1')
  simp only [Prod.mk.injEq] at e1
  obtain ⟨-, -, -, ef1⟩ := e1
  have hvS : cell9.slots[TC.fStack.slot]? = some u := by rw [ef1, hs1, g4 1 (by show 1 < N; omega)]; simp [vp_V, hu]
  obtain ⟨ci198, i198, fB, hk198, hg198, ha198, hsB, -, hnB, htB, hffB⟩ := Cond.ownField (t := .object "java/lang/Object") Y.found L.cls (by decide +kernel) (hts _ q573) (hts _ q572) e.platform hpl
  obtain ⟨cf4, kf4, fi4, f4, hi4, hs4⟩ := hSl 4 (by show 4 < N; omega)
  have hi4' : s.fieldFound? "java/lang/Throwable" "backtrace" "Ljava/lang/Object;" = some (cf4, kf4, fi4, f4) := by
    have q : s.fieldFound? (TT 4).1 (TT 4).2.1 (TT 4).2.2.1 = some (cf4, kf4, fi4, f4) := hi4
    rw [hT4] at q; exact q
  have e4 := Option.some.inj (hffB.symm.trans hi4')
  simp only [Prod.mk.injEq] at e4
  obtain ⟨-, -, -, ef4⟩ := e4
  have hvB : cell9.slots[fB.slot]? = some .null := by rw [ef4, hs4, g4 4 (by show 4 < N; omega)]; simp [vp_V, hbk]
  have hskip : SkipFacts TC e.platform s (fun u => u) ⟨u, hur⟩ (cell9.withEntry T.cur) := ⟨{ ci198 := ci198, i198 := i198, fBack := fB }, ⟨hk198, hg198, ha198, hsB⟩, hvB, fun _ _ => rfl⟩
  obtain ⟨c2, r2, m2', p1, p2, p3, p4, kP, hkP, hkPi⟩ := Cond.selects_spec hselF
  cases hcls.symm.trans p1
  cases (State.methodFound?_of_named Y.fill (by decide)).symm.trans p2
  cases Y.fill.symm.trans p3
  have hselP : selectMethod e.platform s.vm cell9.cls TC.fill = .method TC.fill := by rw [Launch.admits_selectMethod X.admits]; exact p4
  obtain ⟨c3, r3, m3', n1, n2, n3, n4, -⟩ := Cond.selects_spec hsel0
  cases hcls.symm.trans n1
  cases (State.methodFound?_of_named Y.fill0 (by decide)).symm.trans n2
  cases Y.fill0.symm.trans n3
  have hselZ : selectMethod e.platform s.vm cell9.cls TC.fill0 = .method TC.fill0 := by rw [Launch.admits_selectMethod X.admits]; exact n4
  obtain ⟨cfS, kfS, fiS, fS, aS, cS, z1, z2, z3, z4, z5, z6, z7, z8⟩ := hZ.kept hS.2.1
  have eS := Option.some.inj (Y.unassigned.symm.trans z1)
  simp only [Prod.mk.injEq] at eS
  obtain ⟨-, eS2, -, eS4⟩ := eS
  subst eS2
  subst eS4
  have eA : aS = TC.aS := Option.some.inj (z4.symm.trans L.statics)
  subst eA
  have hcS : T.heap[TC.aS]? = some cS := by rw [hT]; exact z5
  have hneS : TC.aS ≠ a := fun q => by
    rw [q, hcell] at hcS
    cases hcS
    rw [g3] at z6
    cases z6
  have hknS : cS.vm ≠ .unknown := fun q => by rw [q] at z6; cases z6
  have hstN : parseFieldDescriptor "[Ljava/lang/StackTraceElement;" = some (.array (.object "java/lang/StackTraceElement")) := by decide +kernel
  have hfit := (u_fits (v := u) hfc hkC hkind (u_lays hts hin (k := 1) (by show 1 < N; omega)) hi1 (by show parseFieldDescriptor (TT 1).2.2.1 = _; rw [hT1]; exact hstN) (by cases u <;> first | rfl | cases hur) (by cases u <;> first | rfl | cases hur)).2
  have htS : Takes s cell9 TC.fStack u := ⟨(Array.getElem?_eq_some_iff.mp hvS).1, by rw [g2, g3, ef1]; exact hfit⟩
  obtain ⟨mF, methF, hnF, hmF, hstF, habF⟩ := Cond.instanceMethod_spec (hts _ q583)
  cases Y.fill.symm.trans hnF
  obtain ⟨methF', cF, hmF', -, -, -, -, -, -, hsigF⟩ := Cond.codeSync_spec hnF (hts _ q586)
  cases hmF.symm.trans hmF'
  have hdg' : decode c.code pc = .ok (.invokevirtual 27, 3) := by rw [hb]; exact hdg
  obtain ⟨vm₁, X₁, hstep₁⟩ := X.invokevirtual hx hown (hts _ q582) hnF hmF hstF hkP hkPi (by decide) (a := a) (cell := cell9) hcell (fun z h => by rw [g3] at h; cases h) hselP hmF habF hkP hkPi (g := F0 m pc ls (.ref a :: rest)) rfl (argsL := []) (rest := rest) (by
      have : (parseMethodDescriptor Bundle.tFill.desc).map (·.parameters.length) = some 0 := by decide +kernel
      rw [show Bundle.tFill.desc = "()Ljava/lang/Throwable;" from rfl] at this
      rw [hsigF] at this
      exact (Option.some.inj this).symm) rfl hdg'
  have hsz : (F0 m pc ls rest).locals.size = c.maxLocals := hml.symm
  have hcell1 : (T.setVm vm₁).heap[a]? = some cell9 := hcell
  have htop : (T.setVm vm₁).topJava?.isSome := X₁.here.top
  have hlim := X₁.framesAbove (n := 2) hRf
  have hwrd := X₁.stackAbove (g := F0 m pc ls rest) hsz (K := 60) (by show 2 * 0 + (rest.map fun v => v.category).sum + 60 ≤ _; omega)
  obtain ⟨g₀, hg₀⟩ := Option.isSome_iff_exists.mp htop
  obtain ⟨tl, htl⟩ := State.topJava?_eq_some.mp hg₀
  have hlen : (T.setVm vm₁).frames.length = (Frame.java (F0 m pc ls rest) :: (T.setVm vm₁).frames.tail).length := by rw [htl]; rfl
  have hroom := roomAbove (pl := e.platform) (u := (T.setVm vm₁).setTop (F0 m pc ls rest)) (vars := 1 + 2) (pushed := []) (base := .java (F0 m pc ls rest) :: (T.setVm vm₁).frames.tail) (free := 60) (lim := e.platform.stackLimits (T.setVm vm₁).me) (by rw [State.frames_setTop _ htl, htl]; rfl) (by rw [State.stackLimits_setTop _ htop]) (by rw [← hlen]; simp only [List.length_nil]; omega) hwrd (by simp only [stackUse_nil]; omega)
  obtain ⟨vm₂, hW2, st⟩ := Steps.fillColdAnyV p (s₀ := s) (V := T.setVm vm₁) (g := F0 m pc ls rest) (c := c) (self := a) X₁.here hx TC L X₁.warmed heapOnly_id (fun _ _ => rfl) (fun _ => rfl) (fun u x y => setCell_twice _ _ _ _) (cell := cell9) (cellS := cS) (cN := cell9.withEntry (T.setVm vm₁).cur) (u0 := ⟨u, hur⟩) (ig := .invokevirtual 27) (len := 3) []
    hcell1 (fun k => by rw [g3]; simp) (by rw [g3]; simp) (Or.inl m2) hvS hselZ hcS hneS hknS z7 (fun _ h => h) (fun _ h => h) rfl rfl rfl (by simp [Cell.withEntry]) htS hdg'
    (fun hne vm3 hW3 hA t' hs => by
      have htopE : (((T.setVm vm₁).setVm vm3).setCell a (cell9.withEntry ((T.setVm vm₁).setVm vm3).cur)).topJava?.isSome := htop
      have hfF : (fillInside ((T.setVm vm₁).setVm vm3) (F0 m pc ls rest) TC.fill a cell9).frames = .java (entryFrameSync TC.fill #[.ref a] 1 a) :: .java (F0 m pc ls rest) :: (T.setVm vm₁).frames.tail := frames_entered (g := F0 m pc ls rest) htopE _
      have htopF : (fillInside ((T.setVm vm₁).setVm vm3) (F0 m pc ls rest) TC.fill a cell9).topJava?.isSome := by rw [State.topJava?_of_frames hfF]; rfl
      have hlimF : e.platform.stackLimits (fillInside ((T.setVm vm₁).setVm vm3) (F0 m pc ls rest) TC.fill a cell9).me = e.platform.stackLimits (T.setVm vm₁).me := by
        rw [State.stackLimits_pushFrame, State.stackLimits_setTop _ htopE]; rfl
      have hw14 : (stackUse [Frame.java (fillJ TC.fill a 16 [])]).2 = 14 := by
        rw [stackUse_java, stackUse_nil]
        simp [operandWords]
      refine L.nativeOff p htr hA hW3 (roomAbove (pl := e.platform) (u := (fillInside ((T.setVm vm₁).setVm vm3) (F0 m pc ls rest) TC.fill a cell9).setTop (fillJ TC.fill a 16 [])) (vars := nativeFrameWords "java/lang/Throwable" "fillInStackTrace" 2)
        (pushed := [.java (fillJ TC.fill a 16 [])]) (base := .java (F0 m pc ls rest) :: (T.setVm vm₁).frames.tail) (free := 60) (lim := e.platform.stackLimits (T.setVm vm₁).me) (State.frames_setTop _ hfF) (by rw [State.stackLimits_setTop _ htopF]; exact hlimF) (by rw [← hlen]; simp only [List.length_cons, List.length_nil]; omega) hwrd (by rw [hw14]; decide)) hs)
    hroom hskip
  have X₂ := X₁.noted hW2
  obtain ⟨t, a1, b1⟩ := kk ((T.setVm vm₁).setVm vm₂) hT X₂
  refine ⟨t, hstep₁ _ (fun acts => ?_), b1⟩
  rw [doInvoke_state]
  refine st _ ?_
  have ec : ((cell9.withEntry (T.setVm vm₁).cur).setSlot TC.fStack.slot u).left = cell9 := by
    rw [Cell.left_setSlot_withEntry _ _ _ m2 m3]; exact Cell.setSlot_same hvS
  rw [show ((cell9.withEntry (T.setVm vm₁).cur).setSlot TC.fStack.slot (⟨u, hur⟩ : RefV).v).left = cell9 from ec, State.setCell_asItLies (show ((T.setVm vm₁).setVm vm₂).heap[a]? = some cell9 from hcell)]
  exact a1
end FIL
section GCA
variable {p : Program} {l : Launch} {e : Env} {R : Room} {s : State} {m : MethodId} {args : Array Value} {below : List Frame} {meth : Method} {c : Code} {H : Heap} {locs : List Loc} {cells slots : Nat} {Q : State → Prop}
variable {cc : ByteArray} {pc : Nat} {ls : Array Slot} {rest st0 : List Value} {D : va_G} {dA : Nat → ClassId} {ad : Nat → Nat} {A : Nat → Prop}
abbrev gcY : MethodName := ⟨"java/lang/Throwable", "getCause", "()Ljava/lang/Throwable;"⟩
abbrev gcX : MethodName := ⟨"FencedStandbys$Fault", "getCause", "()Ljava/lang/Throwable;"⟩
theorem gc_0 : decode prog_30_method_8_code 0 = .ok (.aload_n 0, 1) := by decide +kernel
theorem gc_1 : decode prog_30_method_8_code 1 = .ok (.getfield 7, 3) := by decide +kernel
theorem gc_4 : decode prog_30_method_8_code 4 = .ok (.aload_n 0, 1) := by decide +kernel
theorem gc_5 : decode prog_30_method_8_code 5 = .ok (.if_acmp .ne 7, 3) := by decide +kernel
theorem gc_12 : decode prog_30_method_8_code 12 = .ok (.aload_n 0, 1) := by decide +kernel
theorem gc_13 : decode prog_30_method_8_code 13 = .ok (.getfield 7, 3) := by decide +kernel
theorem gc_16 : decode prog_30_method_8_code 16 = .ok (.areturn, 1) := by decide +kernel
set_option maxHeartbeats 4000000 in
/-- Fault's getCause(): synchronized, Throwable's; the cause is not the object itself -/
theorem z_gc {wz : va_W} {a q0 : Nat} {vs : List Value} {r : Option Nat}
    (hx : p.tables.exec = Jvm.exec) (hb : c.code = cc) (hml : c.maxLocals = ls.size) (hown : s.vm.findClass "FencedStandbys$Fault" = some m.cls) (hts : ∀ w ∈ lw_all, w.before args s = true)
    (hC : Cx D dA ad A s s.heap) (hP : va_P D vwCl wz H) (he : wz[q0]? = some (a, .inr (8, vs))) (hu : vs[0]? = some (va_rf r)) (hra : r ≠ some a) (hM : MonF a H)
    (hRf : 2 < R.frames) (hRl : (rest.map fun v => v.category).sum + 60 ≤ R.locals)
    (hdg : decode cc pc = .ok (.invokevirtual 20, 3))
    (kk : W p l e R s m args below meth c H locs cells slots Q (F0 m (pc + 3) ls (va_rf r :: rest))) : W p l e R s m args below meth c H locs cells slots Q (F0 m pc ls (.ref a :: rest)) := by
  intro T hT X
  have howns : e.platform.frameOwnsMonitors = true := by rw [X.admits.platform]
  have hfin : e.platform.finalization = false := by rw [X.admits.platform]
  have hpl : e.platform.magicAccessors = ({} : Platform).magicAccessors := by rw [X.admits.platform]
  obtain ⟨TC, Z0, L, -, Y⟩ := ThrowableC.of_atoms (args := args) (s := s) howns hfin hpl (z_thrAtoms hts hC)
  obtain ⟨q', h1, cell, g1, g2, g3, g4⟩ := hP q0 _ he
  have hr : q' = (RX8, TX8, 8) := Option.some.inj (h1.symm.trans (show vwCl[8]? = _ from rfl))
  subst hr
  obtain ⟨cell9, m1, m2, m3⟩ := hM
  have e9 : cell9 = cell := Option.some.inj (m1.symm.trans g1)
  subst e9
  have hcell : T.heap[a]? = some cell9 := by rw [hT]; exact g1
  obtain ⟨hSl, hfc, kC, hkC, hkind⟩ := hC.K.1 8 _ (show vwCl[8]? = some (RX8, TX8, 8) from rfl)
  have hcls : s.vm.findClass "FencedStandbys$Fault" = some cell9.cls := by rw [g2]; exact hfc
  obtain ⟨cf, kf, fi, f1, hi1, hs1⟩ := hSl 0 (by decide)
  have hi1' : s.fieldFound? "java/lang/Throwable" "cause" "Ljava/lang/Throwable;" = some (cf, kf, fi, f1) := hi1
  have e1 := Option.some.inj (Y.cause.symm.trans hi1')
  simp only [Prod.mk.injEq] at e1
  obtain ⟨-, -, -, ef1⟩ := e1
  have hvS : cell9.slots[TC.fCause.slot]? = some (va_rf r) := by rw [ef1, hs1, g4 0 (by decide)]; simp [vp_V, hu]
  obtain ⟨⟨cM, iM⟩, methG, hnG, hmG, hstG, habG⟩ := Cond.instanceMethod_spec (hts _ q1312)
  have eM : cM = TC.cT := Option.some.inj ((findClass_of_methodNamed hnG).symm.trans Y.found)
  subst eM
  let mG : MethodId := ⟨TC.cT, iM⟩
  obtain ⟨methG', cG, hmG', hcG, hbG, hlG, hrG, hlkG, -, hsigG⟩ := Cond.codeSync_spec hnG (hts _ q1313)
  cases hmG.symm.trans hmG'
  obtain ⟨cn, ck, r1, hcn, hck, hni, hf, hn1⟩ := Cond.sameMethod_found (hts _ q1309)
  cases hnG.symm.trans hn1
  obtain ⟨c2, r2, m2', p1, p2, p3, p4, kP, hkP, hkPi⟩ := Cond.selects_spec (hts _ q1311)
  cases hcls.symm.trans p1
  cases hf.symm.trans p2
  cases hnG.symm.trans p3
  have hselP : selectMethod e.platform s.vm cell9.cls mG = .method mG := by rw [Launch.admits_selectMethod X.admits]; exact p4
  have hdg' : decode c.code pc = .ok (.invokevirtual 20, 3) := by rw [hb]; exact hdg
  obtain ⟨vm₁, X₁, hstep₁⟩ := X.invokevirtualUp hx hown (hts _ q1308) (hts _ q1309) (by decide) hnG hmG hstG (a := a) (cell := cell9) hcell (fun z h => by rw [g3] at h; cases h) hselP hmG habG hkP hkPi (g := F0 m pc ls (.ref a :: rest)) rfl (argsL := []) (rest := rest) (by
      have : (parseMethodDescriptor "()Ljava/lang/Throwable;").map (·.parameters.length) = some 0 := by decide +kernel
      rw [hsigG] at this
      exact (Option.some.inj this).symm) rfl hdg'
  have hsz : (F0 m pc ls rest).locals.size = c.maxLocals := hml.symm
  have hcell1 : (T.setVm vm₁).heap[a]? = some cell9 := hcell
  have hlt : a < (T.setVm vm₁).heap.size := (Array.getElem?_eq_some_iff.mp hcell1).1
  have hroom := X₁.notFull (g := F0 m pc ls rest) hsz (vars := 1 + 2) (by omega) (by show 2 * 0 + (rest.map fun v => v.category).sum + (1 + 2 + 11) ≤ _; omega)
  have hplain : ∀ k, s.vm.classes[mG.cls]? = some k → plainName k.name = true := fun k hk => by
    obtain ⟨k', hk', hn⟩ := className_of_methodNamed hnG
    cases hk.symm.trans hk'
    rw [hn]; decide
  have hAof : ∀ vm, s.WarmedH vm → At (fillInside ((T.setVm vm₁).setVm vm) (F0 m pc ls rest) mG a cell9) mG cG below := fun vm hWv => by
    have := At.enter_sync (g := F0 m pc ls rest) (X₁.here.setVm (X₁.warmed.alike.symm.trans hWv.alike)) #[.ref a] a (cell9.withEntry (T.setVm vm₁).cur) (hWv.methodAt hmG) hcG (hWv.plainAt (m := mG) hplain)
    rw [hlG] at this
    exact this
  have hcU : ∀ vm, (fillInside ((T.setVm vm₁).setVm vm) (F0 m pc ls rest) mG a cell9).heap[a]? = some (cell9.withEntry (T.setVm vm₁).cur) := fun vm => by
    have hlt' : a < T.heap.size := hlt
    show (T.heap.setIfInBounds a (cell9.withEntry T.cur))[a]? = _
    simp [hlt']
  have hkn : (cell9.withEntry (T.setVm vm₁).cur).vm ≠ .unknown := by show cell9.vm ≠ _; rw [g3]; simp
  obtain ⟨va, hWa, sta⟩ := Steps.getfieldCold (tb := p.tables) (s₀ := s) (U := fillInside ((T.setVm vm₁).setVm vm₁) (F0 m pc ls rest) mG a cell9) (f := fillJ mG a 1 [.ref a]) (a := a) (rest := []) (cell := cell9.withEntry (T.setVm vm₁).cur) (v := va_rf r) (hAof vm₁ X₁.warmed) hx (by rw [hbG]; exact gc_1) X₁.warmed L.link7 L.right7 L.cls L.at7 L.causeInstance rfl (hcU vm₁) hkn hvS
  obtain ⟨vb, hWb, stb⟩ := Steps.getfieldCold (tb := p.tables) (s₀ := s) (U := fillInside ((T.setVm vm₁).setVm va) (F0 m pc ls rest) mG a cell9) (f := fillJ mG a 13 [.ref a]) (a := a) (rest := []) (cell := cell9.withEntry (T.setVm vm₁).cur) (v := va_rf r) (hAof va hWa) hx (by rw [hbG]; exact gc_13) hWa L.link7 L.right7 L.cls L.at7 L.causeInstance rfl (hcU va) hkn hvS
  have X₂ := X₁.noted hWb
  obtain ⟨t, a1, b1⟩ := kk ((T.setVm vm₁).setVm vb) hT X₂
  refine ⟨t, hstep₁ _ (fun acts => ?_), b1⟩
  rw [doInvoke_enter_sync X₁.here.top acts (X₁.warmed.methodAt hmG) hcG hlkG hstG rfl hcell1 (Or.inl m2) (by rw [hlG]; exact hroom)]
  rw [hlG]
  show Steps p.tables e below ((fillInside ((T.setVm vm₁).setVm vm₁) (F0 m pc ls rest) mG a cell9).setTop (fillJ mG a 0 [])) t
  jvm_step (hAof vm₁ X₁.warmed) [hx, hbG, gc_0, Value.isRef]
  refine sta t ?_
  show Steps p.tables e below ((fillInside ((T.setVm vm₁).setVm va) (F0 m pc ls rest) mG a cell9).setTop (fillJ mG a 4 [va_rf r])) t
  have hrf : (va_rf r).isRef = true := by cases r <;> rfl
  jvm_step (hAof va hWa) [hx, hbG, gc_4, Value.isRef]
  have step5 : Steps p.tables e below ((fillInside ((T.setVm vm₁).setVm va) (F0 m pc ls rest) mG a cell9).setTop (fillJ mG a 12 [])) t → Steps p.tables e below ((fillInside ((T.setVm vm₁).setVm va) (F0 m pc ls rest) mG a cell9).setTop (fillJ mG a 5 [.ref a, va_rf r])) t := fun h => by
    cases r with
    | none => jvm_step (hAof va hWa) [hx, hbG, gc_5, va_rf, Value.asRef?, Op.if_acmp.holds]; exact h
    | some x =>
      have hne : ¬ x = a := fun q => hra (by rw [q])
      jvm_step (hAof va hWa) [hx, hbG, gc_5, va_rf, Value.asRef?, Op.if_acmp.holds, hne]; exact h
  refine step5 ?_
  jvm_step (hAof va hWa) [hx, hbG, gc_12, Value.isRef]
  refine stb t ?_
  show Steps p.tables e below ((fillInside ((T.setVm vm₁).setVm vb) (F0 m pc ls rest) mG a cell9).setTop (fillJ mG a 16 [va_rf r])) t
  have hAb := hAof vb hWb
  jvm_step hAb [hAb.top, hx, hbG, gc_16, areturn.wp_sem, hrf, FieldType.isReference]
  refine ⟨methG, hWb.methodAt hmG, ⟨_, hrG, rfl⟩, fun acts' => ?_⟩
  have hfr : (fillInside ((T.setVm vm₁).setVm vb) (F0 m pc ls rest) mG a cell9).frames = .java (entryFrameSync mG #[.ref a] 1 a) :: .java (F0 m pc ls rest) :: (T.setVm vm₁).frames.tail :=
    frames_entered (g := F0 m pc ls rest) (show (((T.setVm vm₁).setVm vb).setCell a (cell9.withEntry (T.setVm vm₁).cur)).topJava?.isSome from X₂.here.top) _
  have hcode : (fillInside ((T.setVm vm₁).setVm vb) (F0 m pc ls rest) mG a cell9).code? m = some c := by
    have := X₂.here.code
    rw [State.code?_eq] at this ⊢
    exact this
  rw [doReturn_leave_sync (u := fillInside ((T.setVm vm₁).setVm vb) (F0 m pc ls rest) mG a cell9) (g := F0 m pc ls rest) (meth := methG) (cg := c) (ig := .invokevirtual 20) (len := 3) (a := a) (cell := cell9.withEntry (T.setVm vm₁).cur)
      (f := fillJ mG a 16 []) (f₀ := entryFrameSync mG #[.ref a] 1 a) (r := (T.setVm vm₁).frames.tail) acts' howns hfr (hWb.methodAt hmG) hlkG rfl rfl (hcU vb) rfl hcode hdg']
  rw [Cell.left_withEntry _ m2 m3]
  have e1 : ((fillInside ((T.setVm vm₁).setVm vb) (F0 m pc ls rest) mG a cell9).setCell a cell9).setFrames (.java (F0 m pc ls rest) :: (T.setVm vm₁).frames.tail) = (((T.setVm vm₁).setVm vb)).setTop (F0 m pc ls rest) := by
    rw [← State.setCell_setFrames]
    have := setFrames_entered (s := ((T.setVm vm₁).setVm vb).setCell a (cell9.withEntry (T.setVm vm₁).cur)) (g := F0 m pc ls rest) X₂.here.top (.java (entryFrameSync mG #[.ref a] 1 a))
    rw [show (fillInside ((T.setVm vm₁).setVm vb) (F0 m pc ls rest) mG a cell9).setFrames (.java (F0 m pc ls rest) :: (T.setVm vm₁).frames.tail) = _ from this]
    rw [State.setCell_setTop, setCell_twice, State.setCell_asItLies (show ((T.setVm vm₁).setVm vb).heap[a]? = some cell9 from hcell)]
  rw [e1, State.setTop_setTop]
  exact a1
end GCA
