set_option maxHeartbeats 4000000 in
set_option maxRecDepth 100000 in
theorem mX2_size (l : Launch) (D : va_G) (dA : Nat → ClassId) (ad : Nat → Nat) (sz : Nat) (jn : Nat) (al : Nat) (mc : Int32) (ae : Nat) (n : Nat) : Met l yX2_size (ws_ yX2_size cX2_size 1 (some .int)) ({ frames := 1, cells := 0, slots := 0, locals := 30 }) (va_Pc [.ref jn] (zP D dA ad (fun q => sz ≤ q) sz (fun H => va_P D vwCl [(jn, .inr (2, [.ref al])), (al, .inr (9, [.int mc, .ref ae, .int (nI (n))]))] H))) (zQi (fun rz H => rz = nI (n)) (fun q => sz ≤ q)) (0) (0) (fun q => sz ≤ q) := by
  refine Met.ofW (cc := cX2_size) (maxL := 1) (ret := (some .int)) (by decide) rfl ?_
  intro p e s m args below meth c s₁ B hml hv
  obtain ⟨rfl, hsz, hC, hP⟩ := hv
  have hx := B.exec
  have hb := B.bytes
  have hr := B.returns
  have hts := atoms_spec (ws := ws_ yX2_size cX2_size 1 (some .int)) B.pre
  have hts : ∀ w ∈ lw_all, w.before _ s = true := fun w h => hts w (List.mem_cons_of_mem _ h)
  have hown : s.vm.findClass RX2 = some m.cls := findClass_of_methodNamed B.named
  have hlocks := B.notSynchronized
  subst hsz
  have hK := hC.K
  have hA : ∀ q : Nat, s.heap.size ≤ q → s.heap.size ≤ q := fun _ h => h
  have hS : va_S (fun q => s.heap.size ≤ q) s.heap s.heap [] := va_S.rf
  have hP : va_P D vwCl [(jn, .inr (2, [.ref al])), (al, .inr (9, [.int mc, .ref ae, .int (nI (n))]))] s.heap := hP
  have hl := lv_entry ([.ref jn]) (n := 1) (Nat.le_of_ble_eq_true rfl)
  rw [lg_entry_eq]
  generalize (lg_sl ([.ref jn]) ++ List.replicate (1 - (lg_sl ([.ref jn])).length) Slot.unset).toArray = ls at hl ⊢
  have hl : lv_has ls 1 [(0, .ref jn)] := hl
  refine lv_aload_n hx hb dX2_size_0 rfl (lv_at hl 0 rfl) ?_
  refine va_get (D := D) (ci := 2) (v := .ref al) (C := RX2) (T := TX2) (N := 1) hx hb hts in_X2 hown hK hP 0 rfl rfl 0 (by decide) (hts _ q138) (fun _ h9 => h9) rfl dX2_size_1 ?_
  refine z_cVi (As := []) (rest := []) ⟨hx, hb, hml, hown, hts⟩ (mJ2_size l D dA ad s.heap.size al mc ae (nI (n))) (cwV 0 hts (lw_V q640 q641 q642 q59 q643) rfl rfl rfl (by decide +kernel) ⟨Nat.le_of_ble_eq_true rfl, Nat.le_of_ble_eq_true rfl⟩) hC hS (fun _ h => hA _ (Nat.le_trans hS.1 h)) (hP.sub (ws' := [(al, .inr (9, [.int mc, .ref ae, .int (nI (n))]))]) [1] rfl) (va_recv hK hP (ci := 9) (q0 := 1) rfl rfl) rfl rfl hl.1 (Nat.le_of_ble_eq_true rfl) dX2_size_4 ⟨Nat.le_of_ble_eq_true rfl, Nat.le_of_ble_eq_true rfl⟩ (fun r_1 H locs hQ hF hS => ?_)
  have hP := va_P.ro hF hP
  obtain rfl : (nI (n)) = r_1 := hQ.symm
  exact z_iret (v := (nI (n))) hx hb hr hS (rfl) (by omega) (by omega) dX2_size_7

set_option maxHeartbeats 4000000 in
set_option maxRecDepth 100000 in
theorem mX2_at (l : Launch) (D : va_G) (dA : Nat → ClassId) (ad : Nat → Nat) (sz : Nat) (jn : Nat) (al : Nat) (mc : Int32) (ae : Nat) (n : Nat) (cap : Nat) (g : Nat → Option Nat) (k : Nat) (y : Nat) (h0 : 1 ≤ k) (h1 : k ≤ n) (h3 : n ≤ cap) (h2 : cap < 2 ^ 31) (hg : g (k - 1) = some y) : Met l yX2_at (ws_ yX2_at cX2_at 2 (some (.object "FencedStandbys$Written"))) ({ frames := 3, cells := 0, slots := 0, locals := 90 }) (va_Pc [.ref jn, .int (nI (k))] (zP D dA ad (fun q => sz ≤ q) sz (fun H => va_P D vwCl [(jn, .inr (2, [.ref al])), (al, .inr (9, [.int mc, .ref ae, .int (nI (n))])), (ae, .inl (dA 3, cap, .inr (.inr (.inr (.inr g)))))] H ∧ NtV D (fun q => sz ≤ q) y H))) (zQr (fun rz H => rz = y) (fun q => sz ≤ q)) (0) (0) (fun q => sz ≤ q) := by
  refine Met.ofW (cc := cX2_at) (maxL := 2) (ret := (some (.object "FencedStandbys$Written"))) (by decide) rfl ?_
  intro p e s m args below meth c s₁ B hml hv
  obtain ⟨rfl, hsz, hC, hP⟩ := hv
  have hx := B.exec
  have hb := B.bytes
  have hr := B.returns
  have hts := atoms_spec (ws := ws_ yX2_at cX2_at 2 (some (.object "FencedStandbys$Written"))) B.pre
  have hts : ∀ w ∈ lw_all, w.before _ s = true := fun w h => hts w (List.mem_cons_of_mem _ h)
  have hown : s.vm.findClass RX2 = some m.cls := findClass_of_methodNamed B.named
  have hlocks := B.notSynchronized
  subst hsz
  have hK := hC.K
  have hA : ∀ q : Nat, s.heap.size ≤ q → s.heap.size ≤ q := fun _ h => h
  have hS : va_S (fun q => s.heap.size ≤ q) s.heap s.heap [] := va_S.rf
  obtain ⟨hP, hP2⟩ := hP
  have hP : va_P D vwCl [(jn, .inr (2, [.ref al])), (al, .inr (9, [.int mc, .ref ae, .int (nI (n))])), (ae, .inl (dA 3, cap, .inr (.inr (.inr (.inr g)))))] s.heap := hP
  have hl := lv_entry ([.ref jn, .int (nI (k))]) (n := 2) (Nat.le_of_ble_eq_true rfl)
  rw [lg_entry_eq]
  generalize (lg_sl ([.ref jn, .int (nI (k))]) ++ List.replicate (2 - (lg_sl ([.ref jn, .int (nI (k))])).length) Slot.unset).toArray = ls at hl ⊢
  have hl : lv_has ls 2 [(0, .ref jn), (1, .int (nI (k)))] := hl
  refine lv_aload_n hx hb dX2_at_0 rfl (lv_at hl 0 rfl) ?_
  refine va_get (D := D) (ci := 2) (v := .ref al) (C := RX2) (T := TX2) (N := 1) hx hb hts in_X2 hown hK hP 0 rfl rfl 0 (by decide) (hts _ q138) (fun _ h9 => h9) rfl dX2_at_1 ?_
  refine lv_iload_n hx hb dX2_at_4 rfl (lv_at hl 1 rfl) ?_
  refine lv_iconst (v := nI (1)) hx hb dX2_at_5 (by decide) ?_
  refine lv_isub hx hb dX2_at_6 ?_
  refine lv_tope (y := nI (k - 1)) (pk_sub (by omega)) ?_
  refine z_cVr (As := [.int (nI (k - 1))]) (rest := []) ⟨hx, hb, hml, hown, hts⟩ (mJ2_get l D dA ad s.heap.size al mc ae n cap g (k - 1) y (by omega) (by omega) (by omega) (hg)) (cwV 1 hts (lw_V q735 q736 q737 q59 q738) rfl rfl rfl (by decide +kernel) ⟨Nat.le_of_ble_eq_true rfl, Nat.le_of_ble_eq_true rfl⟩) hC hS (fun _ h => hA _ (Nat.le_trans hS.1 h)) (hP.sub (ws' := [(al, .inr (9, [.int mc, .ref ae, .int (nI (n))])), (ae, .inl (dA 3, cap, .inr (.inr (.inr (.inr g)))))]) [1, 2] rfl) (va_recv hK hP (ci := 9) (q0 := 1) rfl rfl) rfl rfl hl.1 (Nat.le_of_ble_eq_true rfl) dX2_at_7 ⟨Nat.le_of_ble_eq_true rfl, Nat.le_of_ble_eq_true rfl⟩ (fun r_1 H locs hQ hF hS => ?_)
  have hP := va_P.ro hF hP
  obtain rfl : y = r_1 := hQ.symm
  refine va_castY hx hb hown (hts _ q356) (Cx.nC hC (t := ("FencedStandbys$Note", "FencedStandbys$Written")) (List.mem_of_getElem? (i := 17) rfl)) ((hP2.kept hS).recv hC) dX2_at_10 ?_
  exact z_aret (v := y) hx hb hr (Or.inl ⟨_, rfl⟩) hS (rfl) (by omega) (by omega) dX2_at_13

set_option maxHeartbeats 4000000 in
set_option maxRecDepth 100000 in
theorem mX2_addA (l : Launch) (D : va_G) (dA : Nat → ClassId) (ad : Nat → Nat) (A : Nat → Prop) (sz : Nat) (jn : Nat) (al : Nat) (mc : Int32) (v : Nat) (hA : ∀ q, sz ≤ q → A q) (hD : va_D A [(jn, .inr (2, [.ref al])), (al, .inr (9, [.int mc, .ref (ad 0), .int (nI (0))]))]) : Met l yX2_add (ws_ yX2_add cX2_add 2 (some .int)) ({ frames := 8, cells := 1, slots := 10, locals := 260 }) (va_Pc [.ref jn, .ref v] (zP D dA ad A sz (fun H => va_P D vwCl [(jn, .inr (2, [.ref al])), (al, .inr (9, [.int mc, .ref (ad 0), .int (nI (0))]))] H ∧ NtV D A v H))) (zQi (fun rz H => ∃ q : Nat, rz = nI (1) ∧ va_P D vwCl [(jn, .inr (2, [.ref al])), (al, .inr (9, [.int (mc + nI (1)), .ref q, .int (nI (1))])), (q, .inl (dA 3, 10, .inr (.inr (.inr (.inr (va_up (fun _ => none) 0 (some v)))))))] H ∧ va_D A [(jn, .inr (2, [.ref al])), (al, .inr (9, [.int (mc + nI (1)), .ref q, .int (nI (1))])), (q, .inl (dA 3, 10, .inr (.inr (.inr (.inr (va_up (fun _ => none) 0 (some v)))))))]) A) (1) (10) A := by
  refine Met.ofW (cc := cX2_add) (maxL := 2) (ret := (some .int)) (by decide) rfl ?_
  intro p e s m args below meth c s₁ B hml hv
  obtain ⟨rfl, hsz, hC, hP⟩ := hv
  have hx := B.exec
  have hb := B.bytes
  have hr := B.returns
  have hts := atoms_spec (ws := ws_ yX2_add cX2_add 2 (some .int)) B.pre
  have hts : ∀ w ∈ lw_all, w.before _ s = true := fun w h => hts w (List.mem_cons_of_mem _ h)
  have hown : s.vm.findClass RX2 = some m.cls := findClass_of_methodNamed B.named
  have hlocks := B.notSynchronized
  subst hsz
  have hK := hC.K
  have hS : va_S A s.heap s.heap [] := va_S.rf
  obtain ⟨hP, hP2⟩ := hP
  have hP : va_P D vwCl [(jn, .inr (2, [.ref al])), (al, .inr (9, [.int mc, .ref (ad 0), .int (nI (0))]))] s.heap := hP
  have hl := lv_entry ([.ref jn, .ref v]) (n := 2) (Nat.le_of_ble_eq_true rfl)
  rw [lg_entry_eq]
  generalize (lg_sl ([.ref jn, .ref v]) ++ List.replicate (2 - (lg_sl ([.ref jn, .ref v])).length) Slot.unset).toArray = ls at hl ⊢
  have hl : lv_has ls 2 [(0, .ref jn), (1, .ref v)] := hl
  refine lv_aload_n hx hb dX2_add_0 rfl (lv_at hl 0 rfl) ?_
  refine va_get (D := D) (ci := 2) (v := .ref al) (C := RX2) (T := TX2) (N := 1) hx hb hts in_X2 hown hK hP 0 rfl rfl 0 (by decide) (hts _ q138) (fun _ h9 => h9) rfl dX2_add_1 ?_
  refine lv_aload_n hx hb dX2_add_4 rfl (lv_at hl 1 rfl) ?_
  have hDc := (hD.sub (ws' := [(al, .inr (9, [.int mc, .ref (ad 0), .int (nI (0))]))]) [1] (by decide) rfl).self (sz := s.heap.size)
  have hFc := va_free (wc := [(al, .inr (9, [.int mc, .ref (ad 0), .int (nI (0))]))]) hD hS hA [1] rfl
  refine z_cVi (As := [.ref v]) (rest := []) ⟨hx, hb, hml, hown, hts⟩ (mJ2_addA l D dA ad (va_A [(al, .inr (9, [.int mc, .ref (ad 0), .int (nI (0))]))] s.heap.size) s.heap.size al mc v (fun _ h => Or.inr h) hDc) (cwV 1 hts (lw_V q357 q358 q359 q59 q360) rfl rfl rfl (by decide +kernel) ⟨Nat.le_of_ble_eq_true rfl, Nat.le_of_ble_eq_true rfl⟩) hC hS (hFc) ⟨(hP.sub (ws' := [(al, .inr (9, [.int mc, .ref (ad 0), .int (nI (0))]))]) [1] rfl), (hP2.kept hS).narrow hFc⟩ (va_recv hK hP (ci := 9) (q0 := 1) rfl rfl) rfl rfl hl.1 (Nat.le_of_ble_eq_true rfl) dX2_add_5 ⟨by first | exact Nat.le_of_ble_eq_true rfl | (show _ ≤ _; simp only [headSpec]; omega), by first | exact Nat.le_of_ble_eq_true rfl | (show _ ≤ _; simp only [headSpec]; omega)⟩ (fun r_1 H locs hQ hF hS => ?_)
  obtain ⟨q_2, hQ, hP1, hD1⟩ := hQ
  obtain ⟨hP, hD⟩ := va_join (wr := [(jn, .inr (2, [.ref al]))]) (w1 := [(al, .inr (9, [.int (mc + nI (1)), .ref q_2, .int (nI (1))])), (q_2, .inl (dA 3, 10, .inr (.inr (.inr (.inr (va_up (fun _ => none) 0 (some v)))))))]) hP hD [1] [0] rfl rfl (by decide) (by decide) hF.2 hFc hP1 hD1
  have hP : va_P D vwCl [(jn, .inr (2, [.ref al])), (al, .inr (9, [.int (mc + nI (1)), .ref q_2, .int (nI (1))])), (q_2, .inl (dA 3, 10, .inr (.inr (.inr (.inr (va_up (fun _ => none) 0 (some v)))))))] H := hP
  have hD : va_D A [(jn, .inr (2, [.ref al])), (al, .inr (9, [.int (mc + nI (1)), .ref q_2, .int (nI (1))])), (q_2, .inl (dA 3, 10, .inr (.inr (.inr (.inr (va_up (fun _ => none) 0 (some v)))))))] := hD
  obtain rfl : nI (1) = r_1 := hQ.symm
  refine lv_pop hx hb dX2_add_8 rfl ?_
  refine lv_aload_n hx hb dX2_add_9 rfl (lv_at hl 0 rfl) ?_
  refine va_get (D := D) (ci := 2) (v := .ref al) (C := RX2) (T := TX2) (N := 1) hx hb hts in_X2 hown hK hP 0 rfl rfl 0 (by decide) (hts _ q138) (fun _ h9 => h9) rfl dX2_add_10 ?_
  refine z_cVi (As := []) (rest := []) ⟨hx, hb, hml, hown, hts⟩ (mJ2_size l D dA ad H.size al (mc + nI (1)) q_2 (nI (1))) (cwV 0 hts (lw_V q640 q641 q642 q59 q643) rfl rfl rfl (by decide +kernel) ⟨Nat.le_of_ble_eq_true rfl, Nat.le_of_ble_eq_true rfl⟩) hC hS (fun _ h => hA _ (Nat.le_trans hS.1 h)) (hP.sub (ws' := [(al, .inr (9, [.int (mc + nI (1)), .ref q_2, .int (nI (1))]))]) [1] rfl) (va_recv hK hP (ci := 9) (q0 := 1) rfl rfl) rfl rfl hl.1 (Nat.le_of_ble_eq_true rfl) dX2_add_13 ⟨by first | exact Nat.le_of_ble_eq_true rfl | (show _ ≤ _; simp only [headSpec]; omega), by first | exact Nat.le_of_ble_eq_true rfl | (show _ ≤ _; simp only [headSpec]; omega)⟩ (fun r_3 H locs hQ hF hS => ?_)
  have hP := va_P.ro hF hP
  obtain rfl : (nI (1)) = r_3 := hQ.symm
  exact z_iret (v := (nI (1))) hx hb hr hS (⟨q_2, rfl, hP.sub [0, 1, 2] rfl, hD.sub [0, 1, 2] (by decide) rfl⟩) (by decide) (by decide) dX2_add_16

set_option maxHeartbeats 4000000 in
set_option maxRecDepth 100000 in
theorem mX2_addB (l : Launch) (D : va_G) (dA : Nat → ClassId) (ad : Nat → Nat) (A : Nat → Prop) (sz : Nat) (jn : Nat) (al : Nat) (mc : Int32) (ae : Nat) (n : Nat) (cap : Nat) (g : Nat → Option Nat) (v : Nat) (hA : ∀ q, sz ≤ q → A q) (h1 : n < cap) (h2 : cap ≤ 10000) (hD : va_D A [(jn, .inr (2, [.ref al])), (al, .inr (9, [.int mc, .ref ae, .int (nI (n))])), (ae, .inl (dA 3, cap, .inr (.inr (.inr (.inr g)))))]) : Met l yX2_add (ws_ yX2_add cX2_add 2 (some .int)) ({ frames := 8, cells := 0, slots := 0, locals := 260 }) (va_Pc [.ref jn, .ref v] (zP D dA ad A sz (fun H => va_P D vwCl [(jn, .inr (2, [.ref al])), (al, .inr (9, [.int mc, .ref ae, .int (nI (n))])), (ae, .inl (dA 3, cap, .inr (.inr (.inr (.inr g)))))] H ∧ NtV D A v H))) (zQi (fun rz H => rz = nI (n + 1) ∧ va_P D vwCl [(jn, .inr (2, [.ref al])), (al, .inr (9, [.int (mc + nI (1)), .ref ae, .int (nI (n + 1))])), (ae, .inl (dA 3, cap, .inr (.inr (.inr (.inr (va_up g n (some v)))))))] H) A) (0) (0) A := by
  refine Met.ofW (cc := cX2_add) (maxL := 2) (ret := (some .int)) (by decide) rfl ?_
  intro p e s m args below meth c s₁ B hml hv
  obtain ⟨rfl, hsz, hC, hP⟩ := hv
  have hx := B.exec
  have hb := B.bytes
  have hr := B.returns
  have hts := atoms_spec (ws := ws_ yX2_add cX2_add 2 (some .int)) B.pre
  have hts : ∀ w ∈ lw_all, w.before _ s = true := fun w h => hts w (List.mem_cons_of_mem _ h)
  have hown : s.vm.findClass RX2 = some m.cls := findClass_of_methodNamed B.named
  have hlocks := B.notSynchronized
  subst hsz
  have hK := hC.K
  have hS : va_S A s.heap s.heap [] := va_S.rf
  obtain ⟨hP, hP2⟩ := hP
  have hP : va_P D vwCl [(jn, .inr (2, [.ref al])), (al, .inr (9, [.int mc, .ref ae, .int (nI (n))])), (ae, .inl (dA 3, cap, .inr (.inr (.inr (.inr g)))))] s.heap := hP
  have hl := lv_entry ([.ref jn, .ref v]) (n := 2) (Nat.le_of_ble_eq_true rfl)
  rw [lg_entry_eq]
  generalize (lg_sl ([.ref jn, .ref v]) ++ List.replicate (2 - (lg_sl ([.ref jn, .ref v])).length) Slot.unset).toArray = ls at hl ⊢
  have hl : lv_has ls 2 [(0, .ref jn), (1, .ref v)] := hl
  refine lv_aload_n hx hb dX2_add_0 rfl (lv_at hl 0 rfl) ?_
  refine va_get (D := D) (ci := 2) (v := .ref al) (C := RX2) (T := TX2) (N := 1) hx hb hts in_X2 hown hK hP 0 rfl rfl 0 (by decide) (hts _ q138) (fun _ h9 => h9) rfl dX2_add_1 ?_
  refine lv_aload_n hx hb dX2_add_4 rfl (lv_at hl 1 rfl) ?_
  have hDc := (hD.sub (ws' := [(al, .inr (9, [.int mc, .ref ae, .int (nI (n))])), (ae, .inl (dA 3, cap, .inr (.inr (.inr (.inr g)))))]) [1, 2] (by decide) rfl).self (sz := s.heap.size)
  have hFc := va_free (wc := [(al, .inr (9, [.int mc, .ref ae, .int (nI (n))])), (ae, .inl (dA 3, cap, .inr (.inr (.inr (.inr g)))))]) hD hS hA [1, 2] rfl
  refine z_cVi (As := [.ref v]) (rest := []) ⟨hx, hb, hml, hown, hts⟩ (mJ2_addB l D dA ad (va_A [(al, .inr (9, [.int mc, .ref ae, .int (nI (n))])), (ae, .inl (dA 3, cap, .inr (.inr (.inr (.inr g)))))] s.heap.size) s.heap.size al mc ae n cap g v (fun _ h => Or.inr h) (by omega) (by omega) hDc) (cwV 1 hts (lw_V q357 q358 q359 q59 q360) rfl rfl rfl (by decide +kernel) ⟨Nat.le_of_ble_eq_true rfl, Nat.le_of_ble_eq_true rfl⟩) hC hS (hFc) ⟨(hP.sub (ws' := [(al, .inr (9, [.int mc, .ref ae, .int (nI (n))])), (ae, .inl (dA 3, cap, .inr (.inr (.inr (.inr g)))))]) [1, 2] rfl), (hP2.kept hS).narrow hFc⟩ (va_recv hK hP (ci := 9) (q0 := 1) rfl rfl) rfl rfl hl.1 (Nat.le_of_ble_eq_true rfl) dX2_add_5 ⟨by first | exact Nat.le_of_ble_eq_true rfl | (show _ ≤ _; simp only [headSpec]; omega), by first | exact Nat.le_of_ble_eq_true rfl | (show _ ≤ _; simp only [headSpec]; omega)⟩ (fun r_1 H locs hQ hF hS => ?_)
  obtain ⟨hQ, hP1⟩ := hQ
  obtain ⟨hP, hD⟩ := va_join (wr := [(jn, .inr (2, [.ref al]))]) (w1 := [(al, .inr (9, [.int (mc + nI (1)), .ref ae, .int (nI (n + 1))])), (ae, .inl (dA 3, cap, .inr (.inr (.inr (.inr (va_up g n (some v)))))))]) hP hD [1, 2] [0] rfl rfl (by decide) (by decide) hF.2 hFc hP1 (hDc.same rfl)
  have hP := hP.sub (ws' := [(jn, .inr (2, [.ref al])), (al, .inr (9, [.int (mc + nI (1)), .ref ae, .int (nI (n + 1))])), (ae, .inl (dA 3, cap, .inr (.inr (.inr (.inr (va_up g n (some v)))))))]) [0, 1, 2] rfl
  have hD := hD.sub (ws' := [(jn, .inr (2, [.ref al])), (al, .inr (9, [.int (mc + nI (1)), .ref ae, .int (nI (n + 1))])), (ae, .inl (dA 3, cap, .inr (.inr (.inr (.inr (va_up g n (some v)))))))]) [0, 1, 2] (by decide) rfl
  obtain rfl : nI (1) = r_1 := hQ.symm
  refine lv_pop hx hb dX2_add_8 rfl ?_
  refine lv_aload_n hx hb dX2_add_9 rfl (lv_at hl 0 rfl) ?_
  refine va_get (D := D) (ci := 2) (v := .ref al) (C := RX2) (T := TX2) (N := 1) hx hb hts in_X2 hown hK hP 0 rfl rfl 0 (by decide) (hts _ q138) (fun _ h9 => h9) rfl dX2_add_10 ?_
  refine z_cVi (As := []) (rest := []) ⟨hx, hb, hml, hown, hts⟩ (mJ2_size l D dA ad H.size al (mc + nI (1)) ae (nI (n + 1))) (cwV 0 hts (lw_V q640 q641 q642 q59 q643) rfl rfl rfl (by decide +kernel) ⟨Nat.le_of_ble_eq_true rfl, Nat.le_of_ble_eq_true rfl⟩) hC hS (fun _ h => hA _ (Nat.le_trans hS.1 h)) (hP.sub (ws' := [(al, .inr (9, [.int (mc + nI (1)), .ref ae, .int (nI (n + 1))]))]) [1] rfl) (va_recv hK hP (ci := 9) (q0 := 1) rfl rfl) rfl rfl hl.1 (Nat.le_of_ble_eq_true rfl) dX2_add_13 ⟨by first | exact Nat.le_of_ble_eq_true rfl | (show _ ≤ _; simp only [headSpec]; omega), by first | exact Nat.le_of_ble_eq_true rfl | (show _ ≤ _; simp only [headSpec]; omega)⟩ (fun r_2 H locs hQ hF hS => ?_)
  have hP := va_P.ro hF hP
  obtain rfl : (nI (n + 1)) = r_2 := hQ.symm
  exact z_iret (v := (nI (n + 1))) hx hb hr hS (⟨rfl, hP⟩) (by decide) (by decide) dX2_add_16

set_option maxHeartbeats 4000000 in
set_option maxRecDepth 100000 in
theorem mX2_addC (l : Launch) (D : va_G) (dA : Nat → ClassId) (ad : Nat → Nat) (A : Nat → Prop) (sz : Nat) (jn : Nat) (al : Nat) (mc : Int32) (ae : Nat) (cap : Nat) (g : Nat → Option Nat) (v : Nat) (hA : ∀ q, sz ≤ q → A q) (h1 : 1 ≤ cap) (h2 : cap ≤ 10000) (hD : va_D A [(jn, .inr (2, [.ref al])), (al, .inr (9, [.int mc, .ref ae, .int (nI (cap))])), (ae, .inl (dA 3, cap, .inr (.inr (.inr (.inr g)))))]) : Met l yX2_add (ws_ yX2_add cX2_add 2 (some .int)) ({ frames := 8, cells := 1, slots := (capG cap), locals := 260 }) (va_Pc [.ref jn, .ref v] (zP D dA ad A sz (fun H => va_P D vwCl [(jn, .inr (2, [.ref al])), (al, .inr (9, [.int mc, .ref ae, .int (nI (cap))])), (ae, .inl (dA 3, cap, .inr (.inr (.inr (.inr g)))))] H ∧ NtG D A g cap H ∧ NtV D A v H))) (zQi (fun rz H => ∃ q : Nat, rz = nI (cap + 1) ∧ va_P D vwCl [(jn, .inr (2, [.ref al])), (al, .inr (9, [.int (mc + nI (1)), .ref q, .int (nI (cap + 1))])), (q, .inl (dA 3, (capG cap), .inr (.inr (.inr (.inr (va_up (va_cpy g (fun _ => none) 0 0 cap) cap (some v)))))))] H ∧ va_D A [(jn, .inr (2, [.ref al])), (al, .inr (9, [.int (mc + nI (1)), .ref q, .int (nI (cap + 1))])), (q, .inl (dA 3, (capG cap), .inr (.inr (.inr (.inr (va_up (va_cpy g (fun _ => none) 0 0 cap) cap (some v)))))))]) A) (1) ((capG cap)) A := by
  refine Met.ofW (cc := cX2_add) (maxL := 2) (ret := (some .int)) (by decide) rfl ?_
  intro p e s m args below meth c s₁ B hml hv
  obtain ⟨rfl, hsz, hC, hP⟩ := hv
  have hx := B.exec
  have hb := B.bytes
  have hr := B.returns
  have hts := atoms_spec (ws := ws_ yX2_add cX2_add 2 (some .int)) B.pre
  have hts : ∀ w ∈ lw_all, w.before _ s = true := fun w h => hts w (List.mem_cons_of_mem _ h)
  have hown : s.vm.findClass RX2 = some m.cls := findClass_of_methodNamed B.named
  have hlocks := B.notSynchronized
  subst hsz
  have hK := hC.K
  have hS : va_S A s.heap s.heap [] := va_S.rf
  obtain ⟨hP, hP2⟩ := hP
  have hP : va_P D vwCl [(jn, .inr (2, [.ref al])), (al, .inr (9, [.int mc, .ref ae, .int (nI (cap))])), (ae, .inl (dA 3, cap, .inr (.inr (.inr (.inr g)))))] s.heap := hP
  have hl := lv_entry ([.ref jn, .ref v]) (n := 2) (Nat.le_of_ble_eq_true rfl)
  rw [lg_entry_eq]
  generalize (lg_sl ([.ref jn, .ref v]) ++ List.replicate (2 - (lg_sl ([.ref jn, .ref v])).length) Slot.unset).toArray = ls at hl ⊢
  have hl : lv_has ls 2 [(0, .ref jn), (1, .ref v)] := hl
  refine lv_aload_n hx hb dX2_add_0 rfl (lv_at hl 0 rfl) ?_
  refine va_get (D := D) (ci := 2) (v := .ref al) (C := RX2) (T := TX2) (N := 1) hx hb hts in_X2 hown hK hP 0 rfl rfl 0 (by decide) (hts _ q138) (fun _ h9 => h9) rfl dX2_add_1 ?_
  refine lv_aload_n hx hb dX2_add_4 rfl (lv_at hl 1 rfl) ?_
  have hDc := (hD.sub (ws' := [(al, .inr (9, [.int mc, .ref ae, .int (nI (cap))])), (ae, .inl (dA 3, cap, .inr (.inr (.inr (.inr g)))))]) [1, 2] (by decide) rfl).self (sz := s.heap.size)
  have hFc := va_free (wc := [(al, .inr (9, [.int mc, .ref ae, .int (nI (cap))])), (ae, .inl (dA 3, cap, .inr (.inr (.inr (.inr g)))))]) hD hS hA [1, 2] rfl
  refine z_cVi (As := [.ref v]) (rest := []) ⟨hx, hb, hml, hown, hts⟩ (mJ2_addC l D dA ad (va_A [(al, .inr (9, [.int mc, .ref ae, .int (nI (cap))])), (ae, .inl (dA 3, cap, .inr (.inr (.inr (.inr g)))))] s.heap.size) s.heap.size al mc ae cap g v (fun _ h => Or.inr h) (by omega) (by omega) hDc) (cwV 1 hts (lw_V q357 q358 q359 q59 q360) rfl rfl rfl (by decide +kernel) ⟨Nat.le_of_ble_eq_true rfl, Nat.le_of_ble_eq_true rfl⟩) hC hS (hFc) ⟨(hP.sub (ws' := [(al, .inr (9, [.int mc, .ref ae, .int (nI (cap))])), (ae, .inl (dA 3, cap, .inr (.inr (.inr (.inr g)))))]) [1, 2] rfl), ⟨(hP2.1.kept hS).narrow hFc, (hP2.2.kept hS).narrow hFc⟩⟩ (va_recv hK hP (ci := 9) (q0 := 1) rfl rfl) rfl rfl hl.1 (Nat.le_of_ble_eq_true rfl) dX2_add_5 ⟨by first | exact Nat.le_of_ble_eq_true rfl | (show _ ≤ _; simp only [headSpec]; omega), by first | exact Nat.le_of_ble_eq_true rfl | (show _ ≤ _; simp only [headSpec]; omega)⟩ (fun r_1 H locs hQ hF hS => ?_)
  obtain ⟨q_2, hQ, hP1, hD1⟩ := hQ
  obtain ⟨hP, hD⟩ := va_join (wr := [(jn, .inr (2, [.ref al]))]) (w1 := [(al, .inr (9, [.int (mc + nI (1)), .ref q_2, .int (nI (cap + 1))])), (q_2, .inl (dA 3, (capG cap), .inr (.inr (.inr (.inr (va_up (va_cpy g (fun _ => none) 0 0 cap) cap (some v)))))))]) hP hD [1, 2] [0] rfl rfl (by decide) (by decide) hF.2 hFc hP1 hD1
  have hP : va_P D vwCl [(jn, .inr (2, [.ref al])), (al, .inr (9, [.int (mc + nI (1)), .ref q_2, .int (nI (cap + 1))])), (q_2, .inl (dA 3, (capG cap), .inr (.inr (.inr (.inr (va_up (va_cpy g (fun _ => none) 0 0 cap) cap (some v)))))))] H := hP
  have hD : va_D A [(jn, .inr (2, [.ref al])), (al, .inr (9, [.int (mc + nI (1)), .ref q_2, .int (nI (cap + 1))])), (q_2, .inl (dA 3, (capG cap), .inr (.inr (.inr (.inr (va_up (va_cpy g (fun _ => none) 0 0 cap) cap (some v)))))))] := hD
  obtain rfl : nI (1) = r_1 := hQ.symm
  refine lv_pop hx hb dX2_add_8 rfl ?_
  refine lv_aload_n hx hb dX2_add_9 rfl (lv_at hl 0 rfl) ?_
  refine va_get (D := D) (ci := 2) (v := .ref al) (C := RX2) (T := TX2) (N := 1) hx hb hts in_X2 hown hK hP 0 rfl rfl 0 (by decide) (hts _ q138) (fun _ h9 => h9) rfl dX2_add_10 ?_
  refine z_cVi (As := []) (rest := []) ⟨hx, hb, hml, hown, hts⟩ (mJ2_size l D dA ad H.size al (mc + nI (1)) q_2 (nI (cap + 1))) (cwV 0 hts (lw_V q640 q641 q642 q59 q643) rfl rfl rfl (by decide +kernel) ⟨Nat.le_of_ble_eq_true rfl, Nat.le_of_ble_eq_true rfl⟩) hC hS (fun _ h => hA _ (Nat.le_trans hS.1 h)) (hP.sub (ws' := [(al, .inr (9, [.int (mc + nI (1)), .ref q_2, .int (nI (cap + 1))]))]) [1] rfl) (va_recv hK hP (ci := 9) (q0 := 1) rfl rfl) rfl rfl hl.1 (Nat.le_of_ble_eq_true rfl) dX2_add_13 ⟨by first | exact Nat.le_of_ble_eq_true rfl | (show _ ≤ _; simp only [headSpec]; omega), by first | exact Nat.le_of_ble_eq_true rfl | (show _ ≤ _; simp only [headSpec]; omega)⟩ (fun r_3 H locs hQ hF hS => ?_)
  have hP := va_P.ro hF hP
  obtain rfl : (nI (cap + 1)) = r_3 := hQ.symm
  exact z_iret (v := (nI (cap + 1))) hx hb hr hS (⟨q_2, rfl, hP.sub [0, 1, 2] rfl, hD.sub [0, 1, 2] (by decide) rfl⟩) (by decide) (by omega) dX2_add_16

set_option maxHeartbeats 4000000 in
set_option maxRecDepth 100000 in
theorem mX2_init (l : Launch) (D : va_G) (dA : Nat → ClassId) (ad : Nat → Nat) (A : Nat → Prop) (sz : Nat) (jn : Nat) (x0 : Option Nat) (hA : ∀ q, sz ≤ q → A q) (hD : va_D A [(jn, .inr (2, [va_rf x0]))]) : Met l yX2_init (ws_ yX2_init cX2_init 1 none) ({ frames := 4, cells := 1, slots := 3, locals := 100 }) (va_Pc [.ref jn] (zP D dA ad A sz (fun H => va_P D vwCl [(jn, .inr (2, [va_rf x0]))] H))) (zQv (fun H => ∃ al : Nat, True ∧ va_P D vwCl [(jn, .inr (2, [.ref al])), (al, .inr (9, [.int (nI (0)), .ref (ad 0), .int 0]))] H ∧ va_D A [(jn, .inr (2, [.ref al])), (al, .inr (9, [.int (nI (0)), .ref (ad 0), .int 0]))]) A) (1) (3) A := by
  refine Met.ofW (cc := cX2_init) (maxL := 1) (ret := none) (by decide) rfl ?_
  intro p e s m args below meth c s₁ B hml hv
  obtain ⟨rfl, hsz, hC, hP⟩ := hv
  have hx := B.exec
  have hb := B.bytes
  have hr := B.returns
  have hts := atoms_spec (ws := ws_ yX2_init cX2_init 1 none) B.pre
  have hts : ∀ w ∈ lw_all, w.before _ s = true := fun w h => hts w (List.mem_cons_of_mem _ h)
  have hown : s.vm.findClass RX2 = some m.cls := findClass_of_methodNamed B.named
  have hlocks := B.notSynchronized
  have hin : meth.name = "<init>" := (name_of_methodNamed B.named B.method).1
  subst hsz
  have hK := hC.K
  have hS : va_S A s.heap s.heap [] := va_S.rf
  have hP : va_P D vwCl [(jn, .inr (2, [va_rf x0]))] s.heap := hP
  have hl := lv_entry ([.ref jn]) (n := 1) (Nat.le_of_ble_eq_true rfl)
  rw [lg_entry_eq]
  generalize (lg_sl ([.ref jn]) ++ List.replicate (1 - (lg_sl ([.ref jn])).length) Slot.unset).toArray = ls at hl ⊢
  have hl : lv_has ls 1 [(0, .ref jn)] := hl
  refine lv_aload_n hx hb dX2_init_0 rfl (lv_at hl 0 rfl) ?_
  refine W.objInit hx hb hown (hts _ q107) (hts _ q92) (hts _ q93) rfl (by rw [hml]; exact hl.1) rfl dX2_init_1 (Nat.le_of_ble_eq_true rfl) (Nat.le_of_ble_eq_true rfl) ?_
  refine W.eq (g2 := F0 m 4 ls []) rfl ?_
  refine lv_aload_n hx hb dX2_init_4 rfl (lv_at hl 0 rfl) ?_
  refine va_new (D := D) (ci := 9) (fs := [.int 0, .null, .int 0]) (C := RJ2) (T := TJ2) (N := 3) hx hb hts in_J2 tyJ2 tyJ2_ok hown (hts _ q108) (hts _ q109) (hts _ q59) hK hP hD hS hA rfl (fun j hj => by match j, hj with | 0, _ => rfl | 1, _ => rfl | 2, _ => rfl | j + 3, hj => exact absurd hj (by omega)) (by first | exact Nat.le_of_ble_eq_true rfl | (show _ ≤ _; simp only [headSpec]; omega)) (by first | exact Nat.le_of_ble_eq_true rfl | (show _ ≤ _; simp only [headSpec]; omega)) dX2_init_5 (fun qn H hP hD hS => ?_)
  have hP : va_P D vwCl [(jn, .inr (2, [va_rf x0])), (qn, .inr (9, [.int 0, .null, .int 0]))] H := hP
  have hD : va_D A [(jn, .inr (2, [va_rf x0])), (qn, .inr (9, [.int 0, .null, .int 0]))] := hD
  refine lv_dup hx hb dX2_init_8 rfl ?_
  have hDc := (hD.sub (ws' := [(qn, .inr (9, [.int 0, .null, .int 0]))]) [1] (by decide) rfl).self (sz := H.size)
  have hFc := va_free (wc := [(qn, .inr (9, [.int 0, .null, .int 0]))]) hD hS hA [1] rfl
  refine z_cIv (As := []) (rest := [.ref qn, .ref jn]) ⟨hx, hb, hml, hown, hts⟩ (mJ2_init l D dA ad (va_A [(qn, .inr (9, [.int 0, .null, .int 0]))] H.size) H.size qn 0 none 0 (fun _ h => Or.inr h) hDc) (cwI 0 hts (lw_meth q112) rfl rfl rfl (hts _ q59) (hts _ q110) (hts _ q111) rfl (by decide +kernel) ⟨Nat.le_of_ble_eq_true rfl, Nat.le_of_ble_eq_true rfl⟩) hC hS (hFc) (hP.sub (ws' := [(qn, .inr (9, [.int 0, .null, .int 0]))]) [1] rfl) rfl rfl hl.1 (Nat.le_of_ble_eq_true rfl) dX2_init_9 ⟨Nat.le_of_ble_eq_true rfl, Nat.le_of_ble_eq_true rfl⟩ (fun H locs hQ hF hS => ?_)
  obtain ⟨hQ, hP1⟩ := hQ
  obtain ⟨hP, hD⟩ := va_join (wr := [(jn, .inr (2, [va_rf x0]))]) (w1 := [(qn, .inr (9, [.int (nI (0)), .ref (ad 0), .int 0]))]) hP hD [1] [0] rfl rfl (by decide) (by decide) hF.2 hFc hP1 (hDc.same rfl)
  have hP := hP.sub (ws' := [(jn, .inr (2, [va_rf x0])), (qn, .inr (9, [.int (nI (0)), .ref (ad 0), .int 0]))]) [0, 1] rfl
  have hD := hD.sub (ws' := [(jn, .inr (2, [va_rf x0])), (qn, .inr (9, [.int (nI (0)), .ref (ad 0), .int 0]))]) [0, 1] (by decide) rfl
  refine va_putF (D := D) (ci := 2) (v := .ref qn) (ty := .object "java/util/ArrayList") (C := RX2) (T := TX2) (N := 1) hx hb hts in_X2 tyX2 tyX2_ok nmX2 hown hK hP hD hS 0 rfl rfl 0 (by decide) (hts _ q138) (fun _ h9 => h9) rfl hin (by rfl) (by decide +kernel) rfl rfl (Nat.le_of_ble_eq_true rfl) dX2_init_12 (fun H locs hP hD hS => ?_)
  have hP : va_P D vwCl [(jn, .inr (2, [.ref qn])), (qn, .inr (9, [.int (nI (0)), .ref (ad 0), .int 0]))] H := hP
  have hD : va_D A [(jn, .inr (2, [.ref qn])), (qn, .inr (9, [.int (nI (0)), .ref (ad 0), .int 0]))] := hD
  exact z_vret hx hb hr hS (⟨qn, trivial, hP, hD⟩) (by decide) (by decide) dX2_init_15
