set_option maxHeartbeats 4000000 in
set_option maxRecDepth 100000 in
theorem mJ0_init (l : Launch) (D : va_G) (dA : Nat → ClassId) (ad : Nat → Nat) (A : Nat → Prop) (sz : Nat) (al : Nat) (x0 : Int32) (x1 : Option Nat) (x2 : Int32) (hA : ∀ q, sz ≤ q → A q) (hD : va_D A [(al, .inr (9, [.int x0, va_rf x1, .int x2]))]) : Met l yJ0_init (ws_ yJ0_init cJ0_init 1 none) ({ frames := 1, cells := 0, slots := 0, locals := 15 }) (va_Pc [.ref al] (zP D dA ad A sz (fun H => va_P D vwCl [(al, .inr (9, [.int x0, va_rf x1, .int x2]))] H))) (zQv (fun H => True ∧ va_P D vwCl [(al, .inr (9, [.int x0, va_rf x1, .int x2]))] H) A) (0) (0) A := by
  refine Met.ofW (cc := cJ0_init) (maxL := 1) (ret := none) (by decide) rfl ?_
  intro p e s m args below meth c s₁ B hml hv
  obtain ⟨rfl, hsz, hC, hP⟩ := hv
  have hx := B.exec
  have hb := B.bytes
  have hr := B.returns
  have hts := atoms_spec (ws := ws_ yJ0_init cJ0_init 1 none) B.pre
  have hts : ∀ w ∈ lw_all, w.before _ s = true := fun w h => hts w (List.mem_cons_of_mem _ h)
  have hown : s.vm.findClass RJ0 = some m.cls := findClass_of_methodNamed B.named
  have hlocks := B.notSynchronized
  have hin : meth.name = "<init>" := (name_of_methodNamed B.named B.method).1
  subst hsz
  have hK := hC.K
  have hS : va_S A s.heap s.heap [] := va_S.rf
  have hP : va_P D vwCl [(al, .inr (9, [.int x0, va_rf x1, .int x2]))] s.heap := hP
  have hl := lv_entry ([.ref al]) (n := 1) (Nat.le_of_ble_eq_true rfl)
  rw [lg_entry_eq]
  generalize (lg_sl ([.ref al]) ++ List.replicate (1 - (lg_sl ([.ref al])).length) Slot.unset).toArray = ls at hl ⊢
  have hl : lv_has ls 1 [(0, .ref al)] := hl
  refine lv_aload_n hx hb dJ0_init_0 rfl (lv_at hl 0 rfl) ?_
  refine W.objInit hx hb hown (hts _ q119) (hts _ q92) (hts _ q93) rfl (by rw [hml]; exact hl.1) rfl dJ0_init_1 (Nat.le_of_ble_eq_true rfl) (Nat.le_of_ble_eq_true rfl) ?_
  refine W.eq (g2 := F0 m 4 ls []) rfl ?_
  exact z_vret hx hb hr hS (⟨trivial, hP⟩) (by omega) (by omega) dJ0_init_4

set_option maxHeartbeats 4000000 in
set_option maxRecDepth 100000 in
theorem mJ1_init (l : Launch) (D : va_G) (dA : Nat → ClassId) (ad : Nat → Nat) (A : Nat → Prop) (sz : Nat) (al : Nat) (x0 : Int32) (x1 : Option Nat) (x2 : Int32) (hA : ∀ q, sz ≤ q → A q) (hD : va_D A [(al, .inr (9, [.int x0, va_rf x1, .int x2]))]) : Met l yJ1_init (ws_ yJ1_init cJ1_init 1 none) ({ frames := 2, cells := 0, slots := 0, locals := 40 }) (va_Pc [.ref al] (zP D dA ad A sz (fun H => va_P D vwCl [(al, .inr (9, [.int x0, va_rf x1, .int x2]))] H))) (zQv (fun H => True ∧ va_P D vwCl [(al, .inr (9, [.int (nI (0)), va_rf x1, .int x2]))] H) A) (0) (0) A := by
  refine Met.ofW (cc := cJ1_init) (maxL := 1) (ret := none) (by decide) rfl ?_
  intro p e s m args below meth c s₁ B hml hv
  obtain ⟨rfl, hsz, hC, hP⟩ := hv
  have hx := B.exec
  have hb := B.bytes
  have hr := B.returns
  have hts := atoms_spec (ws := ws_ yJ1_init cJ1_init 1 none) B.pre
  have hts : ∀ w ∈ lw_all, w.before _ s = true := fun w h => hts w (List.mem_cons_of_mem _ h)
  have hown : s.vm.findClass RJ1 = some m.cls := findClass_of_methodNamed B.named
  have hlocks := B.notSynchronized
  have hin : meth.name = "<init>" := (name_of_methodNamed B.named B.method).1
  subst hsz
  have hK := hC.K
  have hS : va_S A s.heap s.heap [] := va_S.rf
  have hP : va_P D vwCl [(al, .inr (9, [.int x0, va_rf x1, .int x2]))] s.heap := hP
  have hl := lv_entry ([.ref al]) (n := 1) (Nat.le_of_ble_eq_true rfl)
  rw [lg_entry_eq]
  generalize (lg_sl ([.ref al]) ++ List.replicate (1 - (lg_sl ([.ref al])).length) Slot.unset).toArray = ls at hl ⊢
  have hl : lv_has ls 1 [(0, .ref al)] := hl
  refine lv_aload_n hx hb dJ1_init_0 rfl (lv_at hl 0 rfl) ?_
  refine z_cIv (As := []) (rest := []) ⟨hx, hb, hml, hown, hts⟩ (mJ0_init l D dA ad A s.heap.size al x0 x1 x2 (hA_up hA hS) (hD.sub [0] (by decide) rfl)) (cwI 0 hts (lw_meth q118) rfl rfl rfl (hts _ q57) (hts _ q116) (hts _ q117) rfl (by decide +kernel) ⟨Nat.le_of_ble_eq_true rfl, Nat.le_of_ble_eq_true rfl⟩) hC hS (fun _ h => h) (hP.sub (ws' := [(al, .inr (9, [.int x0, va_rf x1, .int x2]))]) [0] rfl) rfl rfl hl.1 (Nat.le_of_ble_eq_true rfl) dJ1_init_1 ⟨Nat.le_of_ble_eq_true rfl, Nat.le_of_ble_eq_true rfl⟩ (fun H locs hQ hF hS => ?_)
  obtain ⟨hQ, hP⟩ := hQ
  have hD := va_D.same (ws' := [(al, .inr (9, [.int x0, va_rf x1, .int x2]))]) (hD.sub (ws' := [(al, .inr (9, [.int x0, va_rf x1, .int x2]))]) [0] (by decide) rfl) rfl
  have hP : va_P D vwCl [(al, .inr (9, [.int x0, va_rf x1, .int x2]))] H := hP
  have hD : va_D A [(al, .inr (9, [.int x0, va_rf x1, .int x2]))] := hD
  refine lv_aload_n hx hb dJ1_init_4 rfl (lv_at hl 0 rfl) ?_
  refine lv_iconst (v := nI (0)) hx hb dJ1_init_5 (by decide) ?_
  refine va_put (D := D) (ci := 9) (v := .int (nI (0))) (ty := .int) (C := RJ2) (T := TJ2) (N := 3) hx hb hts in_J2 tyJ2 tyJ2_ok nmJ2 hown hK hP hD hS 0 rfl rfl 0 (by decide) (hts _ q126) (fun _ h9 => h9) rfl (by decide +kernel) rfl rfl (Nat.le_of_ble_eq_true rfl) dJ1_init_6 (fun H locs hP hD hS => ?_)
  have hP : va_P D vwCl [(al, .inr (9, [.int (nI (0)), va_rf x1, .int x2]))] H := hP
  have hD : va_D A [(al, .inr (9, [.int (nI (0)), va_rf x1, .int x2]))] := hD
  exact z_vret hx hb hr hS (⟨trivial, hP⟩) (by omega) (by omega) dJ1_init_9

set_option maxHeartbeats 4000000 in
set_option maxRecDepth 100000 in
theorem mJ2_init (l : Launch) (D : va_G) (dA : Nat → ClassId) (ad : Nat → Nat) (A : Nat → Prop) (sz : Nat) (al : Nat) (x0 : Int32) (x1 : Option Nat) (x2 : Int32) (hA : ∀ q, sz ≤ q → A q) (hD : va_D A [(al, .inr (9, [.int x0, va_rf x1, .int x2]))]) : Met l yJ2_init (ws_ yJ2_init cJ2_init 1 none) ({ frames := 3, cells := 0, slots := 0, locals := 70 }) (va_Pc [.ref al] (zP D dA ad A sz (fun H => va_P D vwCl [(al, .inr (9, [.int x0, va_rf x1, .int x2]))] H))) (zQv (fun H => True ∧ va_P D vwCl [(al, .inr (9, [.int (nI (0)), .ref (ad 0), .int x2]))] H) A) (0) (0) A := by
  refine Met.ofW (cc := cJ2_init) (maxL := 1) (ret := none) (by decide) rfl ?_
  intro p e s m args below meth c s₁ B hml hv
  obtain ⟨rfl, hsz, hC, hP⟩ := hv
  have hx := B.exec
  have hb := B.bytes
  have hr := B.returns
  have hts := atoms_spec (ws := ws_ yJ2_init cJ2_init 1 none) B.pre
  have hts : ∀ w ∈ lw_all, w.before _ s = true := fun w h => hts w (List.mem_cons_of_mem _ h)
  have hown : s.vm.findClass RJ2 = some m.cls := findClass_of_methodNamed B.named
  have hlocks := B.notSynchronized
  have hin : meth.name = "<init>" := (name_of_methodNamed B.named B.method).1
  subst hsz
  have hK := hC.K
  have hS : va_S A s.heap s.heap [] := va_S.rf
  have hP : va_P D vwCl [(al, .inr (9, [.int x0, va_rf x1, .int x2]))] s.heap := hP
  have hl := lv_entry ([.ref al]) (n := 1) (Nat.le_of_ble_eq_true rfl)
  rw [lg_entry_eq]
  generalize (lg_sl ([.ref al]) ++ List.replicate (1 - (lg_sl ([.ref al])).length) Slot.unset).toArray = ls at hl ⊢
  have hl : lv_has ls 1 [(0, .ref al)] := hl
  refine lv_aload_n hx hb dJ2_init_0 rfl (lv_at hl 0 rfl) ?_
  refine z_cIv (As := []) (rest := []) ⟨hx, hb, hml, hown, hts⟩ (mJ1_init l D dA ad A s.heap.size al x0 x1 x2 (hA_up hA hS) (hD.sub [0] (by decide) rfl)) (cwI 0 hts (lw_meth q115) rfl rfl rfl (hts _ q58) (hts _ q113) (hts _ q114) rfl (by decide +kernel) ⟨Nat.le_of_ble_eq_true rfl, Nat.le_of_ble_eq_true rfl⟩) hC hS (fun _ h => h) (hP.sub (ws' := [(al, .inr (9, [.int x0, va_rf x1, .int x2]))]) [0] rfl) rfl rfl hl.1 (Nat.le_of_ble_eq_true rfl) dJ2_init_1 ⟨Nat.le_of_ble_eq_true rfl, Nat.le_of_ble_eq_true rfl⟩ (fun H locs hQ hF hS => ?_)
  obtain ⟨hQ, hP⟩ := hQ
  have hD := va_D.same (ws' := [(al, .inr (9, [.int (nI (0)), va_rf x1, .int x2]))]) (hD.sub (ws' := [(al, .inr (9, [.int x0, va_rf x1, .int x2]))]) [0] (by decide) rfl) rfl
  have hP : va_P D vwCl [(al, .inr (9, [.int (nI (0)), va_rf x1, .int x2]))] H := hP
  have hD : va_D A [(al, .inr (9, [.int (nI (0)), va_rf x1, .int x2]))] := hD
  refine lv_aload_n hx hb dJ2_init_4 rfl (lv_at hl 0 rfl) ?_
  refine va_gets (v := .ref (ad 0)) hx hb hC.zE hS hown (hts _ q120) (fun _ h9 => h9) dJ2_init_5 ?_
  refine va_put (D := D) (ci := 9) (v := .ref (ad 0)) (ty := .array (.object "java/lang/Object")) (C := RJ2) (T := TJ2) (N := 3) hx hb hts in_J2 tyJ2 tyJ2_ok nmJ2 hown hK hP hD hS 0 rfl rfl 1 (by decide) (hts _ q122) (fun _ h9 => h9) rfl (by decide +kernel) rfl rfl (Nat.le_of_ble_eq_true rfl) dJ2_init_8 (fun H locs hP hD hS => ?_)
  have hP : va_P D vwCl [(al, .inr (9, [.int (nI (0)), .ref (ad 0), .int x2]))] H := hP
  have hD : va_D A [(al, .inr (9, [.int (nI (0)), .ref (ad 0), .int x2]))] := hD
  exact z_vret hx hb hr hS (⟨trivial, hP⟩) (by omega) (by omega) dJ2_init_11

set_option maxHeartbeats 4000000 in
set_option maxRecDepth 100000 in
theorem mJ2_size (l : Launch) (D : va_G) (dA : Nat → ClassId) (ad : Nat → Nat) (sz : Nat) (al : Nat) (mc : Int32) (xe : Nat) (xn : Int32) : Met l yJ2_size (ws_ yJ2_size cJ2_size 1 (some .int)) ({ frames := 0, cells := 0, slots := 0, locals := 0 }) (va_Pc [.ref al] (zP D dA ad (fun q => sz ≤ q) sz (fun H => va_P D vwCl [(al, .inr (9, [.int mc, .ref xe, .int xn]))] H))) (zQi (fun rz H => rz = xn) (fun q => sz ≤ q)) (0) (0) (fun q => sz ≤ q) := by
  refine Met.ofW (cc := cJ2_size) (maxL := 1) (ret := (some .int)) (by decide) rfl ?_
  intro p e s m args below meth c s₁ B hml hv
  obtain ⟨rfl, hsz, hC, hP⟩ := hv
  have hx := B.exec
  have hb := B.bytes
  have hr := B.returns
  have hts := atoms_spec (ws := ws_ yJ2_size cJ2_size 1 (some .int)) B.pre
  have hts : ∀ w ∈ lw_all, w.before _ s = true := fun w h => hts w (List.mem_cons_of_mem _ h)
  have hown : s.vm.findClass RJ2 = some m.cls := findClass_of_methodNamed B.named
  have hlocks := B.notSynchronized
  subst hsz
  have hK := hC.K
  have hA : ∀ q : Nat, s.heap.size ≤ q → s.heap.size ≤ q := fun _ h => h
  have hS : va_S (fun q => s.heap.size ≤ q) s.heap s.heap [] := va_S.rf
  have hP : va_P D vwCl [(al, .inr (9, [.int mc, .ref xe, .int xn]))] s.heap := hP
  have hl := lv_entry ([.ref al]) (n := 1) (Nat.le_of_ble_eq_true rfl)
  rw [lg_entry_eq]
  generalize (lg_sl ([.ref al]) ++ List.replicate (1 - (lg_sl ([.ref al])).length) Slot.unset).toArray = ls at hl ⊢
  have hl : lv_has ls 1 [(0, .ref al)] := hl
  refine lv_aload_n hx hb dJ2_size_0 rfl (lv_at hl 0 rfl) ?_
  refine va_get (D := D) (ci := 9) (v := .int xn) (C := RJ2) (T := TJ2) (N := 3) hx hb hts in_J2 hown hK hP 0 rfl rfl 2 (by decide) (hts _ q125) (fun _ h9 => h9) rfl dJ2_size_1 ?_
  exact z_iret (v := xn) hx hb hr hS (rfl) (by omega) (by omega) dJ2_size_4

set_option maxHeartbeats 4000000 in
set_option maxRecDepth 100000 in
theorem mJ2_elementData (l : Launch) (D : va_G) (dA : Nat → ClassId) (ad : Nat → Nat) (sz : Nat) (al : Nat) (mc : Int32) (ae : Nat) (n : Nat) (cap : Nat) (g : Nat → Option Nat) (k : Nat) (y : Nat) (h1 : k < cap) (h2 : cap < 2 ^ 31) (hg : g k = some y) : Met l yJ2_elementData (ws_ yJ2_elementData cJ2_elementData 2 (some (.object "java/lang/Object"))) ({ frames := 0, cells := 0, slots := 0, locals := 0 }) (va_Pc [.ref al, .int (nI (k))] (zP D dA ad (fun q => sz ≤ q) sz (fun H => va_P D vwCl [(al, .inr (9, [.int mc, .ref ae, .int (nI (n))])), (ae, .inl (dA 3, cap, .inr (.inr (.inr (.inr g)))))] H))) (zQr (fun rz H => rz = y) (fun q => sz ≤ q)) (0) (0) (fun q => sz ≤ q) := by
  refine Met.ofW (cc := cJ2_elementData) (maxL := 2) (ret := (some (.object "java/lang/Object"))) (by decide) rfl ?_
  intro p e s m args below meth c s₁ B hml hv
  obtain ⟨rfl, hsz, hC, hP⟩ := hv
  have hx := B.exec
  have hb := B.bytes
  have hr := B.returns
  have hts := atoms_spec (ws := ws_ yJ2_elementData cJ2_elementData 2 (some (.object "java/lang/Object"))) B.pre
  have hts : ∀ w ∈ lw_all, w.before _ s = true := fun w h => hts w (List.mem_cons_of_mem _ h)
  have hown : s.vm.findClass RJ2 = some m.cls := findClass_of_methodNamed B.named
  have hlocks := B.notSynchronized
  subst hsz
  have hK := hC.K
  have hA : ∀ q : Nat, s.heap.size ≤ q → s.heap.size ≤ q := fun _ h => h
  have hS : va_S (fun q => s.heap.size ≤ q) s.heap s.heap [] := va_S.rf
  have hP : va_P D vwCl [(al, .inr (9, [.int mc, .ref ae, .int (nI (n))])), (ae, .inl (dA 3, cap, .inr (.inr (.inr (.inr g)))))] s.heap := hP
  have hl := lv_entry ([.ref al, .int (nI (k))]) (n := 2) (Nat.le_of_ble_eq_true rfl)
  rw [lg_entry_eq]
  generalize (lg_sl ([.ref al, .int (nI (k))]) ++ List.replicate (2 - (lg_sl ([.ref al, .int (nI (k))])).length) Slot.unset).toArray = ls at hl ⊢
  have hl : lv_has ls 2 [(0, .ref al), (1, .int (nI (k)))] := hl
  refine lv_aload_n hx hb dJ2_elementData_0 rfl (lv_at hl 0 rfl) ?_
  refine va_get (D := D) (ci := 9) (v := .ref ae) (C := RJ2) (T := TJ2) (N := 3) hx hb hts in_J2 hown hK hP 0 rfl rfl 1 (by decide) (hts _ q122) (fun _ h9 => h9) rfl dJ2_elementData_1 ?_
  refine lv_iload_n hx hb dJ2_elementData_4 rfl (lv_at hl 1 rfl) ?_
  refine va_aldq hx hb hK hP 1 3 rfl rfl (vp_in_nI (by omega) (by omega)) dJ2_elementData_5 ?_
  refine lv_topv (y := .ref y) (by rw [nI_clamp (by omega)]; rw [hg]; rfl) ?_
  exact z_aret (v := y) hx hb hr (Or.inl ⟨_, rfl⟩) hS (rfl) (by omega) (by omega) dJ2_elementData_6

set_option maxHeartbeats 4000000 in
set_option maxRecDepth 100000 in
theorem mJ2_get (l : Launch) (D : va_G) (dA : Nat → ClassId) (ad : Nat → Nat) (sz : Nat) (al : Nat) (mc : Int32) (ae : Nat) (n : Nat) (cap : Nat) (g : Nat → Option Nat) (k : Nat) (y : Nat) (h1 : k < n) (h3 : n ≤ cap) (h2 : cap < 2 ^ 31) (hg : g k = some y) : Met l yJ2_get (ws_ yJ2_get cJ2_get 2 (some (.object "java/lang/Object"))) ({ frames := 2, cells := 0, slots := 0, locals := 60 }) (va_Pc [.ref al, .int (nI (k))] (zP D dA ad (fun q => sz ≤ q) sz (fun H => va_P D vwCl [(al, .inr (9, [.int mc, .ref ae, .int (nI (n))])), (ae, .inl (dA 3, cap, .inr (.inr (.inr (.inr g)))))] H))) (zQr (fun rz H => rz = y) (fun q => sz ≤ q)) (0) (0) (fun q => sz ≤ q) := by
  refine Met.ofW (cc := cJ2_get) (maxL := 2) (ret := (some (.object "java/lang/Object"))) (by decide) rfl ?_
  intro p e s m args below meth c s₁ B hml hv
  obtain ⟨rfl, hsz, hC, hP⟩ := hv
  have hx := B.exec
  have hb := B.bytes
  have hr := B.returns
  have hts := atoms_spec (ws := ws_ yJ2_get cJ2_get 2 (some (.object "java/lang/Object"))) B.pre
  have hts : ∀ w ∈ lw_all, w.before _ s = true := fun w h => hts w (List.mem_cons_of_mem _ h)
  have hown : s.vm.findClass RJ2 = some m.cls := findClass_of_methodNamed B.named
  have hlocks := B.notSynchronized
  subst hsz
  have hK := hC.K
  have hA : ∀ q : Nat, s.heap.size ≤ q → s.heap.size ≤ q := fun _ h => h
  have hS : va_S (fun q => s.heap.size ≤ q) s.heap s.heap [] := va_S.rf
  have hP : va_P D vwCl [(al, .inr (9, [.int mc, .ref ae, .int (nI (n))])), (ae, .inl (dA 3, cap, .inr (.inr (.inr (.inr g)))))] s.heap := hP
  have hl := lv_entry ([.ref al, .int (nI (k))]) (n := 2) (Nat.le_of_ble_eq_true rfl)
  rw [lg_entry_eq]
  generalize (lg_sl ([.ref al, .int (nI (k))]) ++ List.replicate (2 - (lg_sl ([.ref al, .int (nI (k))])).length) Slot.unset).toArray = ls at hl ⊢
  have hl : lv_has ls 2 [(0, .ref al), (1, .int (nI (k)))] := hl
  refine lv_iload_n hx hb dJ2_get_0 rfl (lv_at hl 1 rfl) ?_
  refine lv_aload_n hx hb dJ2_get_1 rfl (lv_at hl 0 rfl) ?_
  refine va_get (D := D) (ci := 9) (v := .int (nI (n))) (C := RJ2) (T := TJ2) (N := 3) hx hb hts in_J2 hown hK hP 0 rfl rfl 2 (by decide) (hts _ q125) (fun _ h9 => h9) rfl dJ2_get_2 ?_
  refine z_cSi (As := [.int (nI (k)), .int (nI (n))]) (rest := []) ⟨hx, hb, hml, hown, hts⟩ (mJ19_checkIndex l D dA ad s.heap.size k n (by omega) (by omega)) (va_cwS 2 hts (lw_S q739 q740 q82 q741) rfl rfl rfl (by decide +kernel) ⟨Nat.le_of_ble_eq_true rfl, Nat.le_of_ble_eq_true rfl⟩) hC hS (fun _ h => hA _ (Nat.le_trans hS.1 h)) trivial rfl rfl hl.1 (Nat.le_of_ble_eq_true rfl) dJ2_get_5 ⟨Nat.le_of_ble_eq_true rfl, Nat.le_of_ble_eq_true rfl⟩ (fun r_1 H locs hQ hF hS => ?_)
  have hP := va_P.ro hF hP
  obtain rfl : nI (k) = r_1 := hQ.symm
  refine lv_pop hx hb dJ2_get_8 rfl ?_
  refine lv_aload_n hx hb dJ2_get_9 rfl (lv_at hl 0 rfl) ?_
  refine lv_iload_n hx hb dJ2_get_10 rfl (lv_at hl 1 rfl) ?_
  refine z_cVr (As := [.int (nI (k))]) (rest := []) ⟨hx, hb, hml, hown, hts⟩ (mJ2_elementData l D dA ad H.size al mc ae n cap g k y (by omega) (by omega) (hg)) (cwV 1 hts (lw_V q745 q746 q747 q59 q748) rfl rfl rfl (by decide +kernel) ⟨Nat.le_of_ble_eq_true rfl, Nat.le_of_ble_eq_true rfl⟩) hC hS (fun _ h => hA _ (Nat.le_trans hS.1 h)) (hP.sub (ws' := [(al, .inr (9, [.int mc, .ref ae, .int (nI (n))])), (ae, .inl (dA 3, cap, .inr (.inr (.inr (.inr g)))))]) [0, 1] rfl) (va_recv hK hP (ci := 9) (q0 := 0) rfl rfl) rfl rfl hl.1 (Nat.le_of_ble_eq_true rfl) dJ2_get_11 ⟨Nat.le_of_ble_eq_true rfl, Nat.le_of_ble_eq_true rfl⟩ (fun r_2 H locs hQ hF hS => ?_)
  have hP := va_P.ro hF hP
  obtain rfl : y = r_2 := hQ.symm
  exact z_aret (v := y) hx hb hr (Or.inl ⟨_, rfl⟩) hS (rfl) (by omega) (by omega) dJ2_get_14

set_option maxHeartbeats 4000000 in
set_option maxRecDepth 100000 in
theorem mJ2_grow_2C (l : Launch) (D : va_G) (dA : Nat → ClassId) (ad : Nat → Nat) (A : Nat → Prop) (sz : Nat) (al : Nat) (mc : Int32) (ae : Nat) (cap : Nat) (g : Nat → Option Nat) (hA : ∀ q, sz ≤ q → A q) (h1 : 1 ≤ cap) (h2 : cap ≤ 10000) (hD : va_D A [(al, .inr (9, [.int mc, .ref ae, .int (nI (cap))])), (ae, .inl (dA 3, cap, .inr (.inr (.inr (.inr g)))))]) : Met l yJ2_grow_2 (ws_ yJ2_grow_2 cJ2_grow_2 4 (some (.array (.object "java/lang/Object")))) ({ frames := 4, cells := 1, slots := (capG cap), locals := 140 }) (va_Pc [.ref al, .int (nI (cap + 1))] (zP D dA ad A sz (fun H => va_P D vwCl [(al, .inr (9, [.int mc, .ref ae, .int (nI (cap))])), (ae, .inl (dA 3, cap, .inr (.inr (.inr (.inr g)))))] H ∧ NtG D A g cap H))) (zQr (fun rz H => True ∧ va_P D vwCl [(al, .inr (9, [.int mc, .ref rz, .int (nI (cap))])), (rz, .inl (dA 3, (capG cap), .inr (.inr (.inr (.inr (va_cpy g (fun _ => none) 0 0 cap))))))] H ∧ va_D A [(al, .inr (9, [.int mc, .ref rz, .int (nI (cap))])), (rz, .inl (dA 3, (capG cap), .inr (.inr (.inr (.inr (va_cpy g (fun _ => none) 0 0 cap))))))]) A) (1) ((capG cap)) A := by
  refine Met.ofW (cc := cJ2_grow_2) (maxL := 4) (ret := (some (.array (.object "java/lang/Object")))) (by decide) rfl ?_
  intro p e s m args below meth c s₁ B hml hv
  obtain ⟨rfl, hsz, hC, hP⟩ := hv
  have hx := B.exec
  have hb := B.bytes
  have hr := B.returns
  have hts := atoms_spec (ws := ws_ yJ2_grow_2 cJ2_grow_2 4 (some (.array (.object "java/lang/Object")))) B.pre
  have hts : ∀ w ∈ lw_all, w.before _ s = true := fun w h => hts w (List.mem_cons_of_mem _ h)
  have hown : s.vm.findClass RJ2 = some m.cls := findClass_of_methodNamed B.named
  have hlocks := B.notSynchronized
  subst hsz
  have hK := hC.K
  have hS : va_S A s.heap s.heap [] := va_S.rf
  obtain ⟨hP, hP2⟩ := hP
  have hP : va_P D vwCl [(al, .inr (9, [.int mc, .ref ae, .int (nI (cap))])), (ae, .inl (dA 3, cap, .inr (.inr (.inr (.inr g)))))] s.heap := hP
  have hcg := capG_lt cap
  have hl := lv_entry ([.ref al, .int (nI (cap + 1))]) (n := 4) (Nat.le_of_ble_eq_true rfl)
  rw [lg_entry_eq]
  generalize (lg_sl ([.ref al, .int (nI (cap + 1))]) ++ List.replicate (4 - (lg_sl ([.ref al, .int (nI (cap + 1))])).length) Slot.unset).toArray = ls at hl ⊢
  have hl : lv_has ls 4 [(0, .ref al), (1, .int (nI (cap + 1)))] := hl
  refine lv_aload_n hx hb dJ2_grow_2_0 rfl (lv_at hl 0 rfl) ?_
  refine va_get (D := D) (ci := 9) (v := .ref ae) (C := RJ2) (T := TJ2) (N := 3) hx hb hts in_J2 hown hK hP 0 rfl rfl 1 (by decide) (hts _ q122) (fun _ h9 => h9) rfl dJ2_grow_2_1 ?_
  refine va_alen (v := nI (cap)) hx hb hK hP 1 3 rfl rfl rfl dJ2_grow_2_4 ?_
  refine lv_istore_n (lv' := [(2, .int (nI (cap))), (0, .ref al), (1, .int (nI (cap + 1)))]) hx hb dJ2_grow_2_5 rfl hl (by decide) rfl (fun ls hl => ?_)
  refine lv_iload_n hx hb dJ2_grow_2_6 rfl (lv_at hl 0 rfl) ?_
  refine lv_if_gt (tgt := 20) hx hb dJ2_grow_2_7 (by decide) (fun c_1 => ?_) (fun c_1 => ?_)
  · have c_1 := (nI_ltI (by omega) (by omega)).1 (show nI 0 < nI _ from c_1)
    refine lv_iload_n hx hb dJ2_grow_2_20 rfl (lv_at hl 0 rfl) ?_
    refine lv_iload_n hx hb dJ2_grow_2_21 rfl (lv_at hl 2 rfl) ?_
    refine lv_iload_n hx hb dJ2_grow_2_22 rfl (lv_at hl 0 rfl) ?_
    refine lv_isub hx hb dJ2_grow_2_23 ?_
    refine lv_tope (y := nI ((cap + 1) - cap)) (pk_sub (by omega)) ?_
    refine lv_iload_n hx hb dJ2_grow_2_24 rfl (lv_at hl 0 rfl) ?_
    refine lv_iconst (v := nI (1)) hx hb dJ2_grow_2_25 (by decide) ?_
    refine lv_ishr hx hb dJ2_grow_2_26 ?_
    refine lv_tope (y := nI (cap / 2)) (by rw [pk_shrN (k := 1) (by omega) _ (by decide)]) ?_
    refine z_cSi (As := [.int (nI (cap)), .int (nI ((cap + 1) - cap)), .int (nI (cap / 2))]) (rest := []) ⟨hx, hb, hml, hown, hts⟩ (mJ10_newLength l D dA ad s.heap.size cap ((cap + 1) - cap) (cap / 2) (by omega) (by omega) (by omega) (by omega)) (va_cwS 3 hts (lw_S q373 q374 q69 q375) rfl rfl rfl (by decide +kernel) ⟨Nat.le_of_ble_eq_true rfl, Nat.le_of_ble_eq_true rfl⟩) hC hS (fun _ h => hA _ (Nat.le_trans hS.1 h)) trivial rfl rfl hl.1 (Nat.le_of_ble_eq_true rfl) dJ2_grow_2_27 ⟨by first | exact Nat.le_of_ble_eq_true rfl | (show _ ≤ _; simp only [headSpec]; omega), by first | exact Nat.le_of_ble_eq_true rfl | (show _ ≤ _; simp only [headSpec]; omega)⟩ (fun r_2 H locs hQ hF hS => ?_)
    have hP := va_P.ro hF hP
    obtain rfl : (nI (cap + (if ((cap + 1) - cap) < (cap / 2) then (cap / 2) else ((cap + 1) - cap)))) = r_2 := hQ.symm
    refine lv_tope (y := nI (capG cap)) (by unfold capG; rw [show cap + 1 - cap = 1 by omega]) ?_
    refine lv_istore_n (lv' := [(3, .int (nI (capG cap))), (2, .int (nI (cap))), (0, .ref al), (1, .int (nI (cap + 1)))]) hx hb dJ2_grow_2_30 rfl hl (by decide) rfl (fun ls hl => ?_)
    refine lv_aload_n hx hb dJ2_grow_2_31 rfl (lv_at hl 2 rfl) ?_
    refine lv_aload_n hx hb dJ2_grow_2_32 rfl (lv_at hl 2 rfl) ?_
    refine va_get (D := D) (ci := 9) (v := .ref ae) (C := RJ2) (T := TJ2) (N := 3) hx hb hts in_J2 hown hK hP 0 rfl rfl 1 (by decide) (hts _ q122) (fun _ h9 => h9) rfl dJ2_grow_2_33 ?_
    refine lv_iload_n hx hb dJ2_grow_2_36 rfl (lv_at hl 0 rfl) ?_
    have hSo := hS
    refine z_cSr (As := [.ref ae, .int (nI (capG cap))]) (rest := [.ref al]) ⟨hx, hb, hml, hown, hts⟩ (mJ12_copyOf l D dA ad H.size ae cap g (capG cap) (by omega) (by omega)) (va_cwS 2 hts (lw_S q383 q384 q71 q385) rfl rfl rfl (by decide +kernel) ⟨Nat.le_of_ble_eq_true rfl, Nat.le_of_ble_eq_true rfl⟩) hC hS (fun _ h => hA _ (Nat.le_trans hS.1 h)) ⟨(hP.sub (ws' := [(ae, .inl (dA 3, cap, .inr (.inr (.inr (.inr g)))))]) [1] rfl), (hP2.kept hS).narrow (hA_up hA hS)⟩ rfl rfl hl.1 (Nat.le_of_ble_eq_true rfl) dJ2_grow_2_37 ⟨by first | exact Nat.le_of_ble_eq_true rfl | (show _ ≤ _; simp only [headSpec]; omega), by first | exact Nat.le_of_ble_eq_true rfl | (show _ ≤ _; simp only [headSpec]; omega)⟩ (fun r_3 H locs hQ hF hS => ?_)
    obtain ⟨hQ, hP1, hD1⟩ := hQ
    obtain ⟨hP, hD⟩ := z_addnew (hA_up hA hSo) hP hD hF hP1 hD1
    have hP : va_P D vwCl [(al, .inr (9, [.int mc, .ref ae, .int (nI (cap))])), (ae, .inl (dA 3, cap, .inr (.inr (.inr (.inr g))))), (r_3, .inl (dA 3, (capG cap), .inr (.inr (.inr (.inr (va_cpy g (fun _ => none) 0 0 cap))))))] H := hP
    have hD : va_D A [(al, .inr (9, [.int mc, .ref ae, .int (nI (cap))])), (ae, .inl (dA 3, cap, .inr (.inr (.inr (.inr g))))), (r_3, .inl (dA 3, (capG cap), .inr (.inr (.inr (.inr (va_cpy g (fun _ => none) 0 0 cap))))))] := hD
    refine lv_dup_x1 hx hb dJ2_grow_2_40 rfl rfl ?_
    refine va_put (D := D) (ci := 9) (v := .ref r_3) (ty := .array (.object "java/lang/Object")) (C := RJ2) (T := TJ2) (N := 3) hx hb hts in_J2 tyJ2 tyJ2_ok nmJ2 hown hK hP hD hS 0 rfl rfl 1 (by decide) (hts _ q122) (fun _ h9 => h9) rfl (by decide +kernel) rfl rfl (Nat.le_of_ble_eq_true rfl) dJ2_grow_2_41 (fun H locs hP hD hS => ?_)
    have hP : va_P D vwCl [(al, .inr (9, [.int mc, .ref r_3, .int (nI (cap))])), (ae, .inl (dA 3, cap, .inr (.inr (.inr (.inr g))))), (r_3, .inl (dA 3, (capG cap), .inr (.inr (.inr (.inr (va_cpy g (fun _ => none) 0 0 cap))))))] H := hP
    have hD : va_D A [(al, .inr (9, [.int mc, .ref r_3, .int (nI (cap))])), (ae, .inl (dA 3, cap, .inr (.inr (.inr (.inr g))))), (r_3, .inl (dA 3, (capG cap), .inr (.inr (.inr (.inr (va_cpy g (fun _ => none) 0 0 cap))))))] := hD
    exact z_aret (v := r_3) hx hb hr (Or.inr ⟨_, rfl⟩) hS (⟨trivial, hP.sub [0, 2] rfl, hD.sub [0, 2] (by decide) rfl⟩) (by omega) (by omega) dJ2_grow_2_44
  · exact absurd (nI_lt (show 0 < cap by omega) (by omega)) c_1

set_option maxHeartbeats 4000000 in
set_option maxRecDepth 100000 in
theorem mJ2_growC (l : Launch) (D : va_G) (dA : Nat → ClassId) (ad : Nat → Nat) (A : Nat → Prop) (sz : Nat) (al : Nat) (mc : Int32) (ae : Nat) (cap : Nat) (g : Nat → Option Nat) (hA : ∀ q, sz ≤ q → A q) (h1 : 1 ≤ cap) (h2 : cap ≤ 10000) (hD : va_D A [(al, .inr (9, [.int mc, .ref ae, .int (nI (cap))])), (ae, .inl (dA 3, cap, .inr (.inr (.inr (.inr g)))))]) : Met l yJ2_grow (ws_ yJ2_grow cJ2_grow 1 (some (.array (.object "java/lang/Object")))) ({ frames := 5, cells := 1, slots := (capG cap), locals := 170 }) (va_Pc [.ref al] (zP D dA ad A sz (fun H => va_P D vwCl [(al, .inr (9, [.int mc, .ref ae, .int (nI (cap))])), (ae, .inl (dA 3, cap, .inr (.inr (.inr (.inr g)))))] H ∧ NtG D A g cap H))) (zQr (fun rz H => True ∧ va_P D vwCl [(al, .inr (9, [.int mc, .ref rz, .int (nI (cap))])), (rz, .inl (dA 3, (capG cap), .inr (.inr (.inr (.inr (va_cpy g (fun _ => none) 0 0 cap))))))] H ∧ va_D A [(al, .inr (9, [.int mc, .ref rz, .int (nI (cap))])), (rz, .inl (dA 3, (capG cap), .inr (.inr (.inr (.inr (va_cpy g (fun _ => none) 0 0 cap))))))]) A) (1) ((capG cap)) A := by
  refine Met.ofW (cc := cJ2_grow) (maxL := 1) (ret := (some (.array (.object "java/lang/Object")))) (by decide) rfl ?_
  intro p e s m args below meth c s₁ B hml hv
  obtain ⟨rfl, hsz, hC, hP⟩ := hv
  have hx := B.exec
  have hb := B.bytes
  have hr := B.returns
  have hts := atoms_spec (ws := ws_ yJ2_grow cJ2_grow 1 (some (.array (.object "java/lang/Object")))) B.pre
  have hts : ∀ w ∈ lw_all, w.before _ s = true := fun w h => hts w (List.mem_cons_of_mem _ h)
  have hown : s.vm.findClass RJ2 = some m.cls := findClass_of_methodNamed B.named
  have hlocks := B.notSynchronized
  subst hsz
  have hK := hC.K
  have hS : va_S A s.heap s.heap [] := va_S.rf
  obtain ⟨hP, hP2⟩ := hP
  have hP : va_P D vwCl [(al, .inr (9, [.int mc, .ref ae, .int (nI (cap))])), (ae, .inl (dA 3, cap, .inr (.inr (.inr (.inr g)))))] s.heap := hP
  have hl := lv_entry ([.ref al]) (n := 1) (Nat.le_of_ble_eq_true rfl)
  rw [lg_entry_eq]
  generalize (lg_sl ([.ref al]) ++ List.replicate (1 - (lg_sl ([.ref al])).length) Slot.unset).toArray = ls at hl ⊢
  have hl : lv_has ls 1 [(0, .ref al)] := hl
  refine lv_aload_n hx hb dJ2_grow_0 rfl (lv_at hl 0 rfl) ?_
  refine lv_aload_n hx hb dJ2_grow_1 rfl (lv_at hl 0 rfl) ?_
  refine va_get (D := D) (ci := 9) (v := .int (nI (cap))) (C := RJ2) (T := TJ2) (N := 3) hx hb hts in_J2 hown hK hP 0 rfl rfl 2 (by decide) (hts _ q125) (fun _ h9 => h9) rfl dJ2_grow_2 ?_
  refine lv_iconst (v := nI (1)) hx hb dJ2_grow_5 (by decide) ?_
  refine lv_iadd hx hb dJ2_grow_6 ?_
  refine lv_tope (y := nI (cap + 1)) (nI_add _ _) ?_
  refine z_cVr (As := [.int (nI (cap + 1))]) (rest := []) ⟨hx, hb, hml, hown, hts⟩ (mJ2_grow_2C l D dA ad A s.heap.size al mc ae cap g (hA_up hA hS) (by omega) (by omega) (hD.sub [0, 1] (by decide) rfl)) (cwV 1 hts (lw_V q369 q371 qs4 q59 q372) rfl rfl rfl (by decide +kernel) ⟨Nat.le_of_ble_eq_true rfl, Nat.le_of_ble_eq_true rfl⟩) hC hS (fun _ h => h) ⟨(hP.sub (ws' := [(al, .inr (9, [.int mc, .ref ae, .int (nI (cap))])), (ae, .inl (dA 3, cap, .inr (.inr (.inr (.inr g)))))]) [0, 1] rfl), hP2⟩ (va_recv hK hP (ci := 9) (q0 := 0) rfl rfl) rfl rfl hl.1 (Nat.le_of_ble_eq_true rfl) dJ2_grow_7 ⟨by first | exact Nat.le_of_ble_eq_true rfl | (show _ ≤ _; simp only [headSpec]; omega), by first | exact Nat.le_of_ble_eq_true rfl | (show _ ≤ _; simp only [headSpec]; omega)⟩ (fun r_1 H locs hQ hF hS => ?_)
  obtain ⟨hQ, hP1, hD1⟩ := hQ
  have hP := hP1
  have hD := hD1
  have hP : va_P D vwCl [(al, .inr (9, [.int mc, .ref r_1, .int (nI (cap))])), (r_1, .inl (dA 3, (capG cap), .inr (.inr (.inr (.inr (va_cpy g (fun _ => none) 0 0 cap))))))] H := hP
  have hD : va_D A [(al, .inr (9, [.int mc, .ref r_1, .int (nI (cap))])), (r_1, .inl (dA 3, (capG cap), .inr (.inr (.inr (.inr (va_cpy g (fun _ => none) 0 0 cap))))))] := hD
  exact z_aret (v := r_1) hx hb hr (Or.inr ⟨_, rfl⟩) hS (⟨trivial, hP, hD⟩) (by omega) (by omega) dJ2_grow_10

set_option maxHeartbeats 4000000 in
set_option maxRecDepth 100000 in
theorem mJ2_grow_2A (l : Launch) (D : va_G) (dA : Nat → ClassId) (ad : Nat → Nat) (A : Nat → Prop) (sz : Nat) (al : Nat) (mc : Int32) (hA : ∀ q, sz ≤ q → A q) (hD : va_D A [(al, .inr (9, [.int mc, .ref (ad 0), .int (nI (0))]))]) : Met l yJ2_grow_2 (ws_ yJ2_grow_2 cJ2_grow_2 4 (some (.array (.object "java/lang/Object")))) ({ frames := 4, cells := 1, slots := 10, locals := 140 }) (va_Pc [.ref al, .int (nI (1))] (zP D dA ad A sz (fun H => va_P D vwCl [(al, .inr (9, [.int mc, .ref (ad 0), .int (nI (0))]))] H))) (zQr (fun rz H => True ∧ va_P D vwCl [(al, .inr (9, [.int mc, .ref rz, .int (nI (0))])), (rz, .inl (dA 3, 10, .inr (.inr (.inr (.inr (fun _ => none))))))] H ∧ va_D A [(al, .inr (9, [.int mc, .ref rz, .int (nI (0))])), (rz, .inl (dA 3, 10, .inr (.inr (.inr (.inr (fun _ => none))))))]) A) (1) (10) A := by
  refine Met.ofW (cc := cJ2_grow_2) (maxL := 4) (ret := (some (.array (.object "java/lang/Object")))) (by decide) rfl ?_
  intro p e s m args below meth c s₁ B hml hv
  obtain ⟨rfl, hsz, hC, hP⟩ := hv
  have hx := B.exec
  have hb := B.bytes
  have hr := B.returns
  have hts := atoms_spec (ws := ws_ yJ2_grow_2 cJ2_grow_2 4 (some (.array (.object "java/lang/Object")))) B.pre
  have hts : ∀ w ∈ lw_all, w.before _ s = true := fun w h => hts w (List.mem_cons_of_mem _ h)
  have hown : s.vm.findClass RJ2 = some m.cls := findClass_of_methodNamed B.named
  have hlocks := B.notSynchronized
  subst hsz
  have hK := hC.K
  have hS : va_S A s.heap s.heap [] := va_S.rf
  have hP : va_P D vwCl [(al, .inr (9, [.int mc, .ref (ad 0), .int (nI (0))]))] s.heap := hP
  have hl := lv_entry ([.ref al, .int (nI (1))]) (n := 4) (Nat.le_of_ble_eq_true rfl)
  rw [lg_entry_eq]
  generalize (lg_sl ([.ref al, .int (nI (1))]) ++ List.replicate (4 - (lg_sl ([.ref al, .int (nI (1))])).length) Slot.unset).toArray = ls at hl ⊢
  have hl : lv_has ls 4 [(0, .ref al), (1, .int (nI (1)))] := hl
  refine lv_aload_n hx hb dJ2_grow_2_0 rfl (lv_at hl 0 rfl) ?_
  refine va_get (D := D) (ci := 9) (v := .ref (ad 0)) (C := RJ2) (T := TJ2) (N := 3) hx hb hts in_J2 hown hK hP 0 rfl rfl 1 (by decide) (hts _ q122) (fun _ h9 => h9) rfl dJ2_grow_2_1 ?_
  refine va_tlen (v := nI (0)) hx hb hC.tE hS rfl dJ2_grow_2_4 ?_
  refine lv_istore_n (lv' := [(2, .int (nI (0))), (0, .ref al), (1, .int (nI (1)))]) hx hb dJ2_grow_2_5 rfl hl (by decide) rfl (fun ls hl => ?_)
  refine lv_iload_n hx hb dJ2_grow_2_6 rfl (lv_at hl 0 rfl) ?_
  refine lv_if_gt (tgt := 20) hx hb dJ2_grow_2_7 (by decide) (fun c_1 => ?_) (fun c_1 => ?_)
  · exact absurd c_1 (by decide)
  · refine lv_aload_n hx hb dJ2_grow_2_10 rfl (lv_at hl 1 rfl) ?_
    refine va_get (D := D) (ci := 9) (v := .ref (ad 0)) (C := RJ2) (T := TJ2) (N := 3) hx hb hts in_J2 hown hK hP 0 rfl rfl 1 (by decide) (hts _ q122) (fun _ h9 => h9) rfl dJ2_grow_2_11 ?_
    refine va_gets (v := .ref (ad 0)) hx hb hC.zE hS hown (hts _ q120) (fun _ h9 => h9) dJ2_grow_2_14 ?_
    refine lv_acmp_eq (tgt := 45) (rx := some (ad 0)) (ry := some (ad 0)) hx hb dJ2_grow_2_17 (by decide) (fun c_2 => ?_) (fun c_2 => ?_)
    · refine lv_aload_n hx hb dJ2_grow_2_45 rfl (lv_at hl 1 rfl) ?_
      refine lv_bipush (v := nI (10)) hx hb dJ2_grow_2_46 (by decide) ?_
      refine lv_iload_n hx hb dJ2_grow_2_48 rfl (lv_at hl 2 rfl) ?_
      refine va_mmax hx hb (hml.trans hl.1.symm) hown (hts _ q415) (hts _ q377) (hts _ q70) (hts _ q378) (Nat.le_of_ble_eq_true rfl) (Nat.le_of_ble_eq_true rfl) (by first | exact Nat.le_of_ble_eq_true rfl | (show _ ≤ _; simp only [headSpec]; omega)) (by first | exact Nat.le_of_ble_eq_true rfl | (show _ ≤ _; simp only [headSpec]; omega)) dJ2_grow_2_49 ?_
      refine lv_tope (y := nI (10)) (by decide) ?_
      refine z_newo hx hb hown (hts _ q416) hC.aoO hK hP hD hS hA (N := 10) (by first | omega | decide) (by first | exact Nat.le_of_ble_eq_true rfl | (show _ ≤ _; simp only [headSpec]; omega)) (by first | exact Nat.le_of_ble_eq_true rfl | (show _ ≤ _; simp only [headSpec]; omega)) dJ2_grow_2_52 (fun qn H hP hD hS => ?_)
      have hP : va_P D vwCl [(al, .inr (9, [.int mc, .ref (ad 0), .int (nI (0))])), (qn, .inl (dA 3, 10, .inr (.inr (.inr (.inr (fun _ => none))))))] H := hP
      have hD : va_D A [(al, .inr (9, [.int mc, .ref (ad 0), .int (nI (0))])), (qn, .inl (dA 3, 10, .inr (.inr (.inr (.inr (fun _ => none))))))] := hD
      refine lv_dup_x1 hx hb dJ2_grow_2_55 rfl rfl ?_
      refine va_put (D := D) (ci := 9) (v := .ref qn) (ty := .array (.object "java/lang/Object")) (C := RJ2) (T := TJ2) (N := 3) hx hb hts in_J2 tyJ2 tyJ2_ok nmJ2 hown hK hP hD hS 0 rfl rfl 1 (by decide) (hts _ q122) (fun _ h9 => h9) rfl (by decide +kernel) rfl rfl (Nat.le_of_ble_eq_true rfl) dJ2_grow_2_56 (fun H locs hP hD hS => ?_)
      have hP : va_P D vwCl [(al, .inr (9, [.int mc, .ref qn, .int (nI (0))])), (qn, .inl (dA 3, 10, .inr (.inr (.inr (.inr (fun _ => none))))))] H := hP
      have hD : va_D A [(al, .inr (9, [.int mc, .ref qn, .int (nI (0))])), (qn, .inl (dA 3, 10, .inr (.inr (.inr (.inr (fun _ => none))))))] := hD
      exact z_aret (v := qn) hx hb hr (Or.inr ⟨_, rfl⟩) hS (⟨trivial, hP, hD⟩) (by decide) (by decide) dJ2_grow_2_59
    · exact absurd rfl c_2

set_option maxHeartbeats 4000000 in
set_option maxRecDepth 100000 in
theorem mJ2_growA (l : Launch) (D : va_G) (dA : Nat → ClassId) (ad : Nat → Nat) (A : Nat → Prop) (sz : Nat) (al : Nat) (mc : Int32) (hA : ∀ q, sz ≤ q → A q) (hD : va_D A [(al, .inr (9, [.int mc, .ref (ad 0), .int (nI (0))]))]) : Met l yJ2_grow (ws_ yJ2_grow cJ2_grow 1 (some (.array (.object "java/lang/Object")))) ({ frames := 5, cells := 1, slots := 10, locals := 170 }) (va_Pc [.ref al] (zP D dA ad A sz (fun H => va_P D vwCl [(al, .inr (9, [.int mc, .ref (ad 0), .int (nI (0))]))] H))) (zQr (fun rz H => True ∧ va_P D vwCl [(al, .inr (9, [.int mc, .ref rz, .int (nI (0))])), (rz, .inl (dA 3, 10, .inr (.inr (.inr (.inr (fun _ => none))))))] H ∧ va_D A [(al, .inr (9, [.int mc, .ref rz, .int (nI (0))])), (rz, .inl (dA 3, 10, .inr (.inr (.inr (.inr (fun _ => none))))))]) A) (1) (10) A := by
  refine Met.ofW (cc := cJ2_grow) (maxL := 1) (ret := (some (.array (.object "java/lang/Object")))) (by decide) rfl ?_
  intro p e s m args below meth c s₁ B hml hv
  obtain ⟨rfl, hsz, hC, hP⟩ := hv
  have hx := B.exec
  have hb := B.bytes
  have hr := B.returns
  have hts := atoms_spec (ws := ws_ yJ2_grow cJ2_grow 1 (some (.array (.object "java/lang/Object")))) B.pre
  have hts : ∀ w ∈ lw_all, w.before _ s = true := fun w h => hts w (List.mem_cons_of_mem _ h)
  have hown : s.vm.findClass RJ2 = some m.cls := findClass_of_methodNamed B.named
  have hlocks := B.notSynchronized
  subst hsz
  have hK := hC.K
  have hS : va_S A s.heap s.heap [] := va_S.rf
  have hP : va_P D vwCl [(al, .inr (9, [.int mc, .ref (ad 0), .int (nI (0))]))] s.heap := hP
  have hl := lv_entry ([.ref al]) (n := 1) (Nat.le_of_ble_eq_true rfl)
  rw [lg_entry_eq]
  generalize (lg_sl ([.ref al]) ++ List.replicate (1 - (lg_sl ([.ref al])).length) Slot.unset).toArray = ls at hl ⊢
  have hl : lv_has ls 1 [(0, .ref al)] := hl
  refine lv_aload_n hx hb dJ2_grow_0 rfl (lv_at hl 0 rfl) ?_
  refine lv_aload_n hx hb dJ2_grow_1 rfl (lv_at hl 0 rfl) ?_
  refine va_get (D := D) (ci := 9) (v := .int (nI (0))) (C := RJ2) (T := TJ2) (N := 3) hx hb hts in_J2 hown hK hP 0 rfl rfl 2 (by decide) (hts _ q125) (fun _ h9 => h9) rfl dJ2_grow_2 ?_
  refine lv_iconst (v := nI (1)) hx hb dJ2_grow_5 (by decide) ?_
  refine lv_iadd hx hb dJ2_grow_6 ?_
  refine lv_tope (y := nI (1)) (by decide) ?_
  refine z_cVr (As := [.int (nI (1))]) (rest := []) ⟨hx, hb, hml, hown, hts⟩ (mJ2_grow_2A l D dA ad A s.heap.size al mc (hA_up hA hS) (hD.sub [0] (by decide) rfl)) (cwV 1 hts (lw_V q369 q371 qs4 q59 q372) rfl rfl rfl (by decide +kernel) ⟨Nat.le_of_ble_eq_true rfl, Nat.le_of_ble_eq_true rfl⟩) hC hS (fun _ h => h) (hP.sub (ws' := [(al, .inr (9, [.int mc, .ref (ad 0), .int (nI (0))]))]) [0] rfl) (va_recv hK hP (ci := 9) (q0 := 0) rfl rfl) rfl rfl hl.1 (Nat.le_of_ble_eq_true rfl) dJ2_grow_7 ⟨Nat.le_of_ble_eq_true rfl, Nat.le_of_ble_eq_true rfl⟩ (fun r_1 H locs hQ hF hS => ?_)
  obtain ⟨hQ, hP1, hD1⟩ := hQ
  have hP := hP1
  have hD := hD1
  have hP : va_P D vwCl [(al, .inr (9, [.int mc, .ref r_1, .int (nI (0))])), (r_1, .inl (dA 3, 10, .inr (.inr (.inr (.inr (fun _ => none))))))] H := hP
  have hD : va_D A [(al, .inr (9, [.int mc, .ref r_1, .int (nI (0))])), (r_1, .inl (dA 3, 10, .inr (.inr (.inr (.inr (fun _ => none))))))] := hD
  exact z_aret (v := r_1) hx hb hr (Or.inr ⟨_, rfl⟩) hS (⟨trivial, hP, hD⟩) (by decide) (by decide) dJ2_grow_10

set_option maxHeartbeats 4000000 in
set_option maxRecDepth 100000 in
theorem mJ2_add_2A (l : Launch) (D : va_G) (dA : Nat → ClassId) (ad : Nat → Nat) (A : Nat → Prop) (sz : Nat) (al : Nat) (mc : Int32) (v : Nat) (hA : ∀ q, sz ≤ q → A q) (hD : va_D A [(al, .inr (9, [.int mc, .ref (ad 0), .int (nI (0))]))]) : Met l yJ2_add_2 (ws_ yJ2_add_2 cJ2_add_2 4 none) ({ frames := 6, cells := 1, slots := 10, locals := 200 }) (va_Pc [.ref al, .ref v, .ref (ad 0), .int (nI (0))] (zP D dA ad A sz (fun H => va_P D vwCl [(al, .inr (9, [.int mc, .ref (ad 0), .int (nI (0))]))] H ∧ NtV D A v H))) (zQv (fun H => ∃ q : Nat, True ∧ va_P D vwCl [(al, .inr (9, [.int mc, .ref q, .int (nI (1))])), (q, .inl (dA 3, 10, .inr (.inr (.inr (.inr (va_up (fun _ => none) 0 (some v)))))))] H ∧ va_D A [(al, .inr (9, [.int mc, .ref q, .int (nI (1))])), (q, .inl (dA 3, 10, .inr (.inr (.inr (.inr (va_up (fun _ => none) 0 (some v)))))))]) A) (1) (10) A := by
  refine Met.ofW (cc := cJ2_add_2) (maxL := 4) (ret := none) (by decide) rfl ?_
  intro p e s m args below meth c s₁ B hml hv
  obtain ⟨rfl, hsz, hC, hP⟩ := hv
  have hx := B.exec
  have hb := B.bytes
  have hr := B.returns
  have hts := atoms_spec (ws := ws_ yJ2_add_2 cJ2_add_2 4 none) B.pre
  have hts : ∀ w ∈ lw_all, w.before _ s = true := fun w h => hts w (List.mem_cons_of_mem _ h)
  have hown : s.vm.findClass RJ2 = some m.cls := findClass_of_methodNamed B.named
  have hlocks := B.notSynchronized
  subst hsz
  have hK := hC.K
  have hS : va_S A s.heap s.heap [] := va_S.rf
  obtain ⟨hP, hP2⟩ := hP
  have hP : va_P D vwCl [(al, .inr (9, [.int mc, .ref (ad 0), .int (nI (0))]))] s.heap := hP
  have hV := hP2
  have hl := lv_entry ([.ref al, .ref v, .ref (ad 0), .int (nI (0))]) (n := 4) (Nat.le_of_ble_eq_true rfl)
  rw [lg_entry_eq]
  generalize (lg_sl ([.ref al, .ref v, .ref (ad 0), .int (nI (0))]) ++ List.replicate (4 - (lg_sl ([.ref al, .ref v, .ref (ad 0), .int (nI (0))])).length) Slot.unset).toArray = ls at hl ⊢
  have hl : lv_has ls 4 [(0, .ref al), (1, .ref v), (2, .ref (ad 0)), (3, .int (nI (0)))] := hl
  refine lv_iload_n hx hb dJ2_add_2_0 rfl (lv_at hl 3 rfl) ?_
  refine lv_aload_n hx hb dJ2_add_2_1 rfl (lv_at hl 2 rfl) ?_
  refine va_tlen (v := nI (0)) hx hb hC.tE hS rfl dJ2_add_2_2 ?_
  refine lv_icmp_ne (tgt := 11) hx hb dJ2_add_2_3 (by decide) (fun c_1 => ?_) (fun c_1 => ?_)
  · exact absurd rfl c_1
  · refine lv_aload_n hx hb dJ2_add_2_6 rfl (lv_at hl 0 rfl) ?_
    refine z_cVr (As := []) (rest := []) ⟨hx, hb, hml, hown, hts⟩ (mJ2_growA l D dA ad A s.heap.size al mc (hA_up hA hS) (hD.sub [0] (by decide) rfl)) (cwV 0 hts (lw_V q365 q367 qs3 q59 q368) rfl rfl rfl (by decide +kernel) ⟨Nat.le_of_ble_eq_true rfl, Nat.le_of_ble_eq_true rfl⟩) hC hS (fun _ h => h) (hP.sub (ws' := [(al, .inr (9, [.int mc, .ref (ad 0), .int (nI (0))]))]) [0] rfl) (va_recv hK hP (ci := 9) (q0 := 0) rfl rfl) rfl rfl hl.1 (Nat.le_of_ble_eq_true rfl) dJ2_add_2_7 ⟨by first | exact Nat.le_of_ble_eq_true rfl | (show _ ≤ _; simp only [headSpec]; omega), by first | exact Nat.le_of_ble_eq_true rfl | (show _ ≤ _; simp only [headSpec]; omega)⟩ (fun r_2 H locs hQ hF hS => ?_)
    obtain ⟨hQ, hP1, hD1⟩ := hQ
    have hP := hP1
    have hD := hD1
    have hP : va_P D vwCl [(al, .inr (9, [.int mc, .ref r_2, .int (nI (0))])), (r_2, .inl (dA 3, 10, .inr (.inr (.inr (.inr (fun _ => none))))))] H := hP
    have hD : va_D A [(al, .inr (9, [.int mc, .ref r_2, .int (nI (0))])), (r_2, .inl (dA 3, 10, .inr (.inr (.inr (.inr (fun _ => none))))))] := hD
    refine lv_astore_n (lv' := [(2, .ref r_2), (0, .ref al), (1, .ref v), (3, .int (nI (0)))]) hx hb dJ2_add_2_10 rfl hl (by decide) rfl (fun ls hl => ?_)
    refine lv_aload_n hx hb dJ2_add_2_11 rfl (lv_at hl 0 rfl) ?_
    refine lv_iload_n hx hb dJ2_add_2_12 rfl (lv_at hl 3 rfl) ?_
    refine lv_aload_n hx hb dJ2_add_2_13 rfl (lv_at hl 2 rfl) ?_
    refine va_astqM hx hb hK hP hD hS 1 3 rfl rfl ((NtV.any hC (hV.kept hS))) (vp_in_nI (by omega) (by omega)) dJ2_add_2_14 (fun H locs hP hD hS => ?_)
    rw [nI_clamp (by omega)] at hP hD
    have hP : va_P D vwCl [(al, .inr (9, [.int mc, .ref r_2, .int (nI (0))])), (r_2, .inl (dA 3, 10, .inr (.inr (.inr (.inr (va_up (fun _ => none) 0 (some v)))))))] H := hP
    have hD : va_D A [(al, .inr (9, [.int mc, .ref r_2, .int (nI (0))])), (r_2, .inl (dA 3, 10, .inr (.inr (.inr (.inr (va_up (fun _ => none) 0 (some v)))))))] := hD
    refine lv_aload_n hx hb dJ2_add_2_15 rfl (lv_at hl 1 rfl) ?_
    refine lv_iload_n hx hb dJ2_add_2_16 rfl (lv_at hl 3 rfl) ?_
    refine lv_iconst (v := nI (1)) hx hb dJ2_add_2_17 (by decide) ?_
    refine lv_iadd hx hb dJ2_add_2_18 ?_
    refine lv_tope (y := nI (1)) (by decide) ?_
    refine va_put (D := D) (ci := 9) (v := .int (nI (1))) (ty := .int) (C := RJ2) (T := TJ2) (N := 3) hx hb hts in_J2 tyJ2 tyJ2_ok nmJ2 hown hK hP hD hS 0 rfl rfl 2 (by decide) (hts _ q125) (fun _ h9 => h9) rfl (by decide +kernel) rfl rfl (Nat.le_of_ble_eq_true rfl) dJ2_add_2_19 (fun H locs hP hD hS => ?_)
    have hP : va_P D vwCl [(al, .inr (9, [.int mc, .ref r_2, .int (nI (1))])), (r_2, .inl (dA 3, 10, .inr (.inr (.inr (.inr (va_up (fun _ => none) 0 (some v)))))))] H := hP
    have hD : va_D A [(al, .inr (9, [.int mc, .ref r_2, .int (nI (1))])), (r_2, .inl (dA 3, 10, .inr (.inr (.inr (.inr (va_up (fun _ => none) 0 (some v)))))))] := hD
    exact z_vret hx hb hr hS (⟨r_2, trivial, hP, hD⟩) (by decide) (by decide) dJ2_add_2_22

set_option maxHeartbeats 4000000 in
set_option maxRecDepth 100000 in
theorem mJ2_addA (l : Launch) (D : va_G) (dA : Nat → ClassId) (ad : Nat → Nat) (A : Nat → Prop) (sz : Nat) (al : Nat) (mc : Int32) (v : Nat) (hA : ∀ q, sz ≤ q → A q) (hD : va_D A [(al, .inr (9, [.int mc, .ref (ad 0), .int (nI (0))]))]) : Met l yJ2_add (ws_ yJ2_add cJ2_add 2 (some .boolean)) ({ frames := 7, cells := 1, slots := 10, locals := 230 }) (va_Pc [.ref al, .ref v] (zP D dA ad A sz (fun H => va_P D vwCl [(al, .inr (9, [.int mc, .ref (ad 0), .int (nI (0))]))] H ∧ NtV D A v H))) (zQi (fun rz H => ∃ q : Nat, rz = nI (1) ∧ va_P D vwCl [(al, .inr (9, [.int (mc + nI (1)), .ref q, .int (nI (1))])), (q, .inl (dA 3, 10, .inr (.inr (.inr (.inr (va_up (fun _ => none) 0 (some v)))))))] H ∧ va_D A [(al, .inr (9, [.int (mc + nI (1)), .ref q, .int (nI (1))])), (q, .inl (dA 3, 10, .inr (.inr (.inr (.inr (va_up (fun _ => none) 0 (some v)))))))]) A) (1) (10) A := by
  refine Met.ofW (cc := cJ2_add) (maxL := 2) (ret := (some .boolean)) (by decide) rfl ?_
  intro p e s m args below meth c s₁ B hml hv
  obtain ⟨rfl, hsz, hC, hP⟩ := hv
  have hx := B.exec
  have hb := B.bytes
  have hr := B.returns
  have hts := atoms_spec (ws := ws_ yJ2_add cJ2_add 2 (some .boolean)) B.pre
  have hts : ∀ w ∈ lw_all, w.before _ s = true := fun w h => hts w (List.mem_cons_of_mem _ h)
  have hown : s.vm.findClass RJ2 = some m.cls := findClass_of_methodNamed B.named
  have hlocks := B.notSynchronized
  subst hsz
  have hK := hC.K
  have hS : va_S A s.heap s.heap [] := va_S.rf
  obtain ⟨hP, hP2⟩ := hP
  have hP : va_P D vwCl [(al, .inr (9, [.int mc, .ref (ad 0), .int (nI (0))]))] s.heap := hP
  have hl := lv_entry ([.ref al, .ref v]) (n := 2) (Nat.le_of_ble_eq_true rfl)
  rw [lg_entry_eq]
  generalize (lg_sl ([.ref al, .ref v]) ++ List.replicate (2 - (lg_sl ([.ref al, .ref v])).length) Slot.unset).toArray = ls at hl ⊢
  have hl : lv_has ls 2 [(0, .ref al), (1, .ref v)] := hl
  refine lv_aload_n hx hb dJ2_add_0 rfl (lv_at hl 0 rfl) ?_
  refine lv_dup hx hb dJ2_add_1 rfl ?_
  refine va_get (D := D) (ci := 9) (v := .int mc) (C := RJ2) (T := TJ2) (N := 3) hx hb hts in_J2 hown hK hP 0 rfl rfl 0 (by decide) (hts _ q129) (u_same (hts _ q128)) rfl dJ2_add_2 ?_
  refine lv_iconst (v := nI (1)) hx hb dJ2_add_5 (by decide) ?_
  refine lv_iadd hx hb dJ2_add_6 ?_
  refine va_put (D := D) (ci := 9) (v := .int (mc + (nI (1)))) (ty := .int) (C := RJ2) (T := TJ2) (N := 3) hx hb hts in_J2 tyJ2 tyJ2_ok nmJ2 hown hK hP hD hS 0 rfl rfl 0 (by decide) (hts _ q129) (u_same (hts _ q128)) rfl (by decide +kernel) rfl rfl (Nat.le_of_ble_eq_true rfl) dJ2_add_7 (fun H locs hP hD hS => ?_)
  have hP : va_P D vwCl [(al, .inr (9, [.int (mc + (nI (1))), .ref (ad 0), .int (nI (0))]))] H := hP
  have hD : va_D A [(al, .inr (9, [.int (mc + (nI (1))), .ref (ad 0), .int (nI (0))]))] := hD
  refine lv_aload_n hx hb dJ2_add_10 rfl (lv_at hl 0 rfl) ?_
  refine lv_aload_n hx hb dJ2_add_11 rfl (lv_at hl 1 rfl) ?_
  refine lv_aload_n hx hb dJ2_add_12 rfl (lv_at hl 0 rfl) ?_
  refine va_get (D := D) (ci := 9) (v := .ref (ad 0)) (C := RJ2) (T := TJ2) (N := 3) hx hb hts in_J2 hown hK hP 0 rfl rfl 1 (by decide) (hts _ q122) (fun _ h9 => h9) rfl dJ2_add_13 ?_
  refine lv_aload_n hx hb dJ2_add_16 rfl (lv_at hl 0 rfl) ?_
  refine va_get (D := D) (ci := 9) (v := .int (nI (0))) (C := RJ2) (T := TJ2) (N := 3) hx hb hts in_J2 hown hK hP 0 rfl rfl 2 (by decide) (hts _ q125) (fun _ h9 => h9) rfl dJ2_add_17 ?_
  refine z_cVv (As := [.ref v, .ref (ad 0), .int (nI (0))]) (rest := []) ⟨hx, hb, hml, hown, hts⟩ (mJ2_add_2A l D dA ad A H.size al (mc + (nI (1))) v (hA_up hA hS) (hD.sub [0] (by decide) rfl)) (cwV 3 hts (lw_V q361 q363 qs2 q59 q364) rfl rfl rfl (by decide +kernel) ⟨Nat.le_of_ble_eq_true rfl, Nat.le_of_ble_eq_true rfl⟩) hC hS (fun _ h => h) ⟨(hP.sub (ws' := [(al, .inr (9, [.int (mc + (nI (1))), .ref (ad 0), .int (nI (0))]))]) [0] rfl), hP2.kept hS⟩ (va_recv hK hP (ci := 9) (q0 := 0) rfl rfl) rfl rfl hl.1 (Nat.le_of_ble_eq_true rfl) dJ2_add_20 ⟨by first | exact Nat.le_of_ble_eq_true rfl | (show _ ≤ _; simp only [headSpec]; omega), by first | exact Nat.le_of_ble_eq_true rfl | (show _ ≤ _; simp only [headSpec]; omega)⟩ (fun H locs hQ hF hS => ?_)
  obtain ⟨q_2, hQ, hP1, hD1⟩ := hQ
  have hP := hP1
  have hD := hD1
  have hP : va_P D vwCl [(al, .inr (9, [.int (mc + (nI (1))), .ref q_2, .int (nI (1))])), (q_2, .inl (dA 3, 10, .inr (.inr (.inr (.inr (va_up (fun _ => none) 0 (some v)))))))] H := hP
  have hD : va_D A [(al, .inr (9, [.int (mc + (nI (1))), .ref q_2, .int (nI (1))])), (q_2, .inl (dA 3, 10, .inr (.inr (.inr (.inr (va_up (fun _ => none) 0 (some v)))))))] := hD
  refine lv_iconst (v := nI (1)) hx hb dJ2_add_23 (by decide) ?_
  exact z_zret (v := nI (1)) hx hb hr (by first | rfl | decide) hS (⟨q_2, rfl, hP, hD⟩) (by decide) (by decide) dJ2_add_24

set_option maxHeartbeats 4000000 in
set_option maxRecDepth 100000 in
theorem mJ2_add_2B (l : Launch) (D : va_G) (dA : Nat → ClassId) (ad : Nat → Nat) (A : Nat → Prop) (sz : Nat) (al : Nat) (mc : Int32) (ae : Nat) (n : Nat) (cap : Nat) (g : Nat → Option Nat) (v : Nat) (hA : ∀ q, sz ≤ q → A q) (h1 : n < cap) (h2 : cap ≤ 10000) (hD : va_D A [(al, .inr (9, [.int mc, .ref ae, .int (nI (n))])), (ae, .inl (dA 3, cap, .inr (.inr (.inr (.inr g)))))]) : Met l yJ2_add_2 (ws_ yJ2_add_2 cJ2_add_2 4 none) ({ frames := 6, cells := 0, slots := 0, locals := 200 }) (va_Pc [.ref al, .ref v, .ref ae, .int (nI (n))] (zP D dA ad A sz (fun H => va_P D vwCl [(al, .inr (9, [.int mc, .ref ae, .int (nI (n))])), (ae, .inl (dA 3, cap, .inr (.inr (.inr (.inr g)))))] H ∧ NtV D A v H))) (zQv (fun H => True ∧ va_P D vwCl [(al, .inr (9, [.int mc, .ref ae, .int (nI (n + 1))])), (ae, .inl (dA 3, cap, .inr (.inr (.inr (.inr (va_up g n (some v)))))))] H) A) (0) (0) A := by
  refine Met.ofW (cc := cJ2_add_2) (maxL := 4) (ret := none) (by decide) rfl ?_
  intro p e s m args below meth c s₁ B hml hv
  obtain ⟨rfl, hsz, hC, hP⟩ := hv
  have hx := B.exec
  have hb := B.bytes
  have hr := B.returns
  have hts := atoms_spec (ws := ws_ yJ2_add_2 cJ2_add_2 4 none) B.pre
  have hts : ∀ w ∈ lw_all, w.before _ s = true := fun w h => hts w (List.mem_cons_of_mem _ h)
  have hown : s.vm.findClass RJ2 = some m.cls := findClass_of_methodNamed B.named
  have hlocks := B.notSynchronized
  subst hsz
  have hK := hC.K
  have hS : va_S A s.heap s.heap [] := va_S.rf
  obtain ⟨hP, hP2⟩ := hP
  have hP : va_P D vwCl [(al, .inr (9, [.int mc, .ref ae, .int (nI (n))])), (ae, .inl (dA 3, cap, .inr (.inr (.inr (.inr g)))))] s.heap := hP
  have hV := hP2
  have hl := lv_entry ([.ref al, .ref v, .ref ae, .int (nI (n))]) (n := 4) (Nat.le_of_ble_eq_true rfl)
  rw [lg_entry_eq]
  generalize (lg_sl ([.ref al, .ref v, .ref ae, .int (nI (n))]) ++ List.replicate (4 - (lg_sl ([.ref al, .ref v, .ref ae, .int (nI (n))])).length) Slot.unset).toArray = ls at hl ⊢
  have hl : lv_has ls 4 [(0, .ref al), (1, .ref v), (2, .ref ae), (3, .int (nI (n)))] := hl
  refine lv_iload_n hx hb dJ2_add_2_0 rfl (lv_at hl 3 rfl) ?_
  refine lv_aload_n hx hb dJ2_add_2_1 rfl (lv_at hl 2 rfl) ?_
  refine va_alen (v := nI (cap)) hx hb hK hP 1 3 rfl rfl rfl dJ2_add_2_2 ?_
  refine lv_icmp_ne (tgt := 11) hx hb dJ2_add_2_3 (by decide) (fun c_1 => ?_) (fun c_1 => ?_)
  · have c_1 := mt (nI_eq (by omega) (by omega)).2 c_1
    refine lv_aload_n hx hb dJ2_add_2_11 rfl (lv_at hl 2 rfl) ?_
    refine lv_iload_n hx hb dJ2_add_2_12 rfl (lv_at hl 3 rfl) ?_
    refine lv_aload_n hx hb dJ2_add_2_13 rfl (lv_at hl 1 rfl) ?_
    refine va_astqM hx hb hK hP hD hS 1 3 rfl rfl ((NtV.any hC (hV.kept hS))) (vp_in_nI (by omega) (by omega)) dJ2_add_2_14 (fun H locs hP hD hS => ?_)
    rw [nI_clamp (by omega)] at hP hD
    have hP : va_P D vwCl [(al, .inr (9, [.int mc, .ref ae, .int (nI (n))])), (ae, .inl (dA 3, cap, .inr (.inr (.inr (.inr (va_up g n (some v)))))))] H := hP
    have hD : va_D A [(al, .inr (9, [.int mc, .ref ae, .int (nI (n))])), (ae, .inl (dA 3, cap, .inr (.inr (.inr (.inr (va_up g n (some v)))))))] := hD
    refine lv_aload_n hx hb dJ2_add_2_15 rfl (lv_at hl 0 rfl) ?_
    refine lv_iload_n hx hb dJ2_add_2_16 rfl (lv_at hl 3 rfl) ?_
    refine lv_iconst (v := nI (1)) hx hb dJ2_add_2_17 (by decide) ?_
    refine lv_iadd hx hb dJ2_add_2_18 ?_
    refine lv_tope (y := nI (n + 1)) (nI_add _ _) ?_
    refine va_put (D := D) (ci := 9) (v := .int (nI (n + 1))) (ty := .int) (C := RJ2) (T := TJ2) (N := 3) hx hb hts in_J2 tyJ2 tyJ2_ok nmJ2 hown hK hP hD hS 0 rfl rfl 2 (by decide) (hts _ q125) (fun _ h9 => h9) rfl (by decide +kernel) rfl rfl (Nat.le_of_ble_eq_true rfl) dJ2_add_2_19 (fun H locs hP hD hS => ?_)
    have hP : va_P D vwCl [(al, .inr (9, [.int mc, .ref ae, .int (nI (n + 1))])), (ae, .inl (dA 3, cap, .inr (.inr (.inr (.inr (va_up g n (some v)))))))] H := hP
    have hD : va_D A [(al, .inr (9, [.int mc, .ref ae, .int (nI (n + 1))])), (ae, .inl (dA 3, cap, .inr (.inr (.inr (.inr (va_up g n (some v)))))))] := hD
    exact z_vret hx hb hr hS (⟨trivial, hP⟩) (by omega) (by omega) dJ2_add_2_22
  · have c_1 := (nI_eq (by omega) (by omega)).1 c_1
    omega

set_option maxHeartbeats 4000000 in
set_option maxRecDepth 100000 in
theorem mJ2_addB (l : Launch) (D : va_G) (dA : Nat → ClassId) (ad : Nat → Nat) (A : Nat → Prop) (sz : Nat) (al : Nat) (mc : Int32) (ae : Nat) (n : Nat) (cap : Nat) (g : Nat → Option Nat) (v : Nat) (hA : ∀ q, sz ≤ q → A q) (h1 : n < cap) (h2 : cap ≤ 10000) (hD : va_D A [(al, .inr (9, [.int mc, .ref ae, .int (nI (n))])), (ae, .inl (dA 3, cap, .inr (.inr (.inr (.inr g)))))]) : Met l yJ2_add (ws_ yJ2_add cJ2_add 2 (some .boolean)) ({ frames := 7, cells := 0, slots := 0, locals := 230 }) (va_Pc [.ref al, .ref v] (zP D dA ad A sz (fun H => va_P D vwCl [(al, .inr (9, [.int mc, .ref ae, .int (nI (n))])), (ae, .inl (dA 3, cap, .inr (.inr (.inr (.inr g)))))] H ∧ NtV D A v H))) (zQi (fun rz H => rz = nI (1) ∧ va_P D vwCl [(al, .inr (9, [.int (mc + nI (1)), .ref ae, .int (nI (n + 1))])), (ae, .inl (dA 3, cap, .inr (.inr (.inr (.inr (va_up g n (some v)))))))] H) A) (0) (0) A := by
  refine Met.ofW (cc := cJ2_add) (maxL := 2) (ret := (some .boolean)) (by decide) rfl ?_
  intro p e s m args below meth c s₁ B hml hv
  obtain ⟨rfl, hsz, hC, hP⟩ := hv
  have hx := B.exec
  have hb := B.bytes
  have hr := B.returns
  have hts := atoms_spec (ws := ws_ yJ2_add cJ2_add 2 (some .boolean)) B.pre
  have hts : ∀ w ∈ lw_all, w.before _ s = true := fun w h => hts w (List.mem_cons_of_mem _ h)
  have hown : s.vm.findClass RJ2 = some m.cls := findClass_of_methodNamed B.named
  have hlocks := B.notSynchronized
  subst hsz
  have hK := hC.K
  have hS : va_S A s.heap s.heap [] := va_S.rf
  obtain ⟨hP, hP2⟩ := hP
  have hP : va_P D vwCl [(al, .inr (9, [.int mc, .ref ae, .int (nI (n))])), (ae, .inl (dA 3, cap, .inr (.inr (.inr (.inr g)))))] s.heap := hP
  have hl := lv_entry ([.ref al, .ref v]) (n := 2) (Nat.le_of_ble_eq_true rfl)
  rw [lg_entry_eq]
  generalize (lg_sl ([.ref al, .ref v]) ++ List.replicate (2 - (lg_sl ([.ref al, .ref v])).length) Slot.unset).toArray = ls at hl ⊢
  have hl : lv_has ls 2 [(0, .ref al), (1, .ref v)] := hl
  refine lv_aload_n hx hb dJ2_add_0 rfl (lv_at hl 0 rfl) ?_
  refine lv_dup hx hb dJ2_add_1 rfl ?_
  refine va_get (D := D) (ci := 9) (v := .int mc) (C := RJ2) (T := TJ2) (N := 3) hx hb hts in_J2 hown hK hP 0 rfl rfl 0 (by decide) (hts _ q129) (u_same (hts _ q128)) rfl dJ2_add_2 ?_
  refine lv_iconst (v := nI (1)) hx hb dJ2_add_5 (by decide) ?_
  refine lv_iadd hx hb dJ2_add_6 ?_
  refine va_put (D := D) (ci := 9) (v := .int (mc + (nI (1)))) (ty := .int) (C := RJ2) (T := TJ2) (N := 3) hx hb hts in_J2 tyJ2 tyJ2_ok nmJ2 hown hK hP hD hS 0 rfl rfl 0 (by decide) (hts _ q129) (u_same (hts _ q128)) rfl (by decide +kernel) rfl rfl (Nat.le_of_ble_eq_true rfl) dJ2_add_7 (fun H locs hP hD hS => ?_)
  have hP : va_P D vwCl [(al, .inr (9, [.int (mc + (nI (1))), .ref ae, .int (nI (n))])), (ae, .inl (dA 3, cap, .inr (.inr (.inr (.inr g)))))] H := hP
  have hD : va_D A [(al, .inr (9, [.int (mc + (nI (1))), .ref ae, .int (nI (n))])), (ae, .inl (dA 3, cap, .inr (.inr (.inr (.inr g)))))] := hD
  refine lv_aload_n hx hb dJ2_add_10 rfl (lv_at hl 0 rfl) ?_
  refine lv_aload_n hx hb dJ2_add_11 rfl (lv_at hl 1 rfl) ?_
  refine lv_aload_n hx hb dJ2_add_12 rfl (lv_at hl 0 rfl) ?_
  refine va_get (D := D) (ci := 9) (v := .ref ae) (C := RJ2) (T := TJ2) (N := 3) hx hb hts in_J2 hown hK hP 0 rfl rfl 1 (by decide) (hts _ q122) (fun _ h9 => h9) rfl dJ2_add_13 ?_
  refine lv_aload_n hx hb dJ2_add_16 rfl (lv_at hl 0 rfl) ?_
  refine va_get (D := D) (ci := 9) (v := .int (nI (n))) (C := RJ2) (T := TJ2) (N := 3) hx hb hts in_J2 hown hK hP 0 rfl rfl 2 (by decide) (hts _ q125) (fun _ h9 => h9) rfl dJ2_add_17 ?_
  refine z_cVv (As := [.ref v, .ref ae, .int (nI (n))]) (rest := []) ⟨hx, hb, hml, hown, hts⟩ (mJ2_add_2B l D dA ad A H.size al (mc + (nI (1))) ae n cap g v (hA_up hA hS) (by omega) (by omega) (hD.sub [0, 1] (by decide) rfl)) (cwV 3 hts (lw_V q361 q363 qs2 q59 q364) rfl rfl rfl (by decide +kernel) ⟨Nat.le_of_ble_eq_true rfl, Nat.le_of_ble_eq_true rfl⟩) hC hS (fun _ h => h) ⟨(hP.sub (ws' := [(al, .inr (9, [.int (mc + (nI (1))), .ref ae, .int (nI (n))])), (ae, .inl (dA 3, cap, .inr (.inr (.inr (.inr g)))))]) [0, 1] rfl), hP2.kept hS⟩ (va_recv hK hP (ci := 9) (q0 := 0) rfl rfl) rfl rfl hl.1 (Nat.le_of_ble_eq_true rfl) dJ2_add_20 ⟨by first | exact Nat.le_of_ble_eq_true rfl | (show _ ≤ _; simp only [headSpec]; omega), by first | exact Nat.le_of_ble_eq_true rfl | (show _ ≤ _; simp only [headSpec]; omega)⟩ (fun H locs hQ hF hS => ?_)
  obtain ⟨hQ, hP⟩ := hQ
  have hD := va_D.same (ws' := [(al, .inr (9, [.int (mc + (nI (1))), .ref ae, .int (nI (n + 1))])), (ae, .inl (dA 3, cap, .inr (.inr (.inr (.inr (va_up g n (some v)))))))]) (hD.sub (ws' := [(al, .inr (9, [.int (mc + (nI (1))), .ref ae, .int (nI (n))])), (ae, .inl (dA 3, cap, .inr (.inr (.inr (.inr g)))))]) [0, 1] (by decide) rfl) rfl
  have hP : va_P D vwCl [(al, .inr (9, [.int (mc + (nI (1))), .ref ae, .int (nI (n + 1))])), (ae, .inl (dA 3, cap, .inr (.inr (.inr (.inr (va_up g n (some v)))))))] H := hP
  have hD : va_D A [(al, .inr (9, [.int (mc + (nI (1))), .ref ae, .int (nI (n + 1))])), (ae, .inl (dA 3, cap, .inr (.inr (.inr (.inr (va_up g n (some v)))))))] := hD
  refine lv_iconst (v := nI (1)) hx hb dJ2_add_23 (by decide) ?_
  exact z_zret (v := nI (1)) hx hb hr (by first | rfl | decide) hS (⟨rfl, hP⟩) (by decide) (by decide) dJ2_add_24

set_option maxHeartbeats 4000000 in
set_option maxRecDepth 100000 in
theorem mJ2_add_2C (l : Launch) (D : va_G) (dA : Nat → ClassId) (ad : Nat → Nat) (A : Nat → Prop) (sz : Nat) (al : Nat) (mc : Int32) (ae : Nat) (cap : Nat) (g : Nat → Option Nat) (v : Nat) (hA : ∀ q, sz ≤ q → A q) (h1 : 1 ≤ cap) (h2 : cap ≤ 10000) (hD : va_D A [(al, .inr (9, [.int mc, .ref ae, .int (nI (cap))])), (ae, .inl (dA 3, cap, .inr (.inr (.inr (.inr g)))))]) : Met l yJ2_add_2 (ws_ yJ2_add_2 cJ2_add_2 4 none) ({ frames := 6, cells := 1, slots := (capG cap), locals := 200 }) (va_Pc [.ref al, .ref v, .ref ae, .int (nI (cap))] (zP D dA ad A sz (fun H => va_P D vwCl [(al, .inr (9, [.int mc, .ref ae, .int (nI (cap))])), (ae, .inl (dA 3, cap, .inr (.inr (.inr (.inr g)))))] H ∧ NtG D A g cap H ∧ NtV D A v H))) (zQv (fun H => ∃ q : Nat, True ∧ va_P D vwCl [(al, .inr (9, [.int mc, .ref q, .int (nI (cap + 1))])), (q, .inl (dA 3, (capG cap), .inr (.inr (.inr (.inr (va_up (va_cpy g (fun _ => none) 0 0 cap) cap (some v)))))))] H ∧ va_D A [(al, .inr (9, [.int mc, .ref q, .int (nI (cap + 1))])), (q, .inl (dA 3, (capG cap), .inr (.inr (.inr (.inr (va_up (va_cpy g (fun _ => none) 0 0 cap) cap (some v)))))))]) A) (1) ((capG cap)) A := by
  refine Met.ofW (cc := cJ2_add_2) (maxL := 4) (ret := none) (by decide) rfl ?_
  intro p e s m args below meth c s₁ B hml hv
  obtain ⟨rfl, hsz, hC, hP⟩ := hv
  have hx := B.exec
  have hb := B.bytes
  have hr := B.returns
  have hts := atoms_spec (ws := ws_ yJ2_add_2 cJ2_add_2 4 none) B.pre
  have hts : ∀ w ∈ lw_all, w.before _ s = true := fun w h => hts w (List.mem_cons_of_mem _ h)
  have hown : s.vm.findClass RJ2 = some m.cls := findClass_of_methodNamed B.named
  have hlocks := B.notSynchronized
  subst hsz
  have hK := hC.K
  have hS : va_S A s.heap s.heap [] := va_S.rf
  obtain ⟨hP, hP2⟩ := hP
  have hP : va_P D vwCl [(al, .inr (9, [.int mc, .ref ae, .int (nI (cap))])), (ae, .inl (dA 3, cap, .inr (.inr (.inr (.inr g)))))] s.heap := hP
  obtain ⟨hP2, hV⟩ := hP2
  have hcg := capG_lt cap
  have hl := lv_entry ([.ref al, .ref v, .ref ae, .int (nI (cap))]) (n := 4) (Nat.le_of_ble_eq_true rfl)
  rw [lg_entry_eq]
  generalize (lg_sl ([.ref al, .ref v, .ref ae, .int (nI (cap))]) ++ List.replicate (4 - (lg_sl ([.ref al, .ref v, .ref ae, .int (nI (cap))])).length) Slot.unset).toArray = ls at hl ⊢
  have hl : lv_has ls 4 [(0, .ref al), (1, .ref v), (2, .ref ae), (3, .int (nI (cap)))] := hl
  refine lv_iload_n hx hb dJ2_add_2_0 rfl (lv_at hl 3 rfl) ?_
  refine lv_aload_n hx hb dJ2_add_2_1 rfl (lv_at hl 2 rfl) ?_
  refine va_alen (v := nI (cap)) hx hb hK hP 1 3 rfl rfl rfl dJ2_add_2_2 ?_
  refine lv_icmp_ne (tgt := 11) hx hb dJ2_add_2_3 (by decide) (fun c_1 => ?_) (fun c_1 => ?_)
  · exact absurd rfl c_1
  · refine lv_aload_n hx hb dJ2_add_2_6 rfl (lv_at hl 0 rfl) ?_
    refine z_cVr (As := []) (rest := []) ⟨hx, hb, hml, hown, hts⟩ (mJ2_growC l D dA ad A s.heap.size al mc ae cap g (hA_up hA hS) (by omega) (by omega) (hD.sub [0, 1] (by decide) rfl)) (cwV 0 hts (lw_V q365 q367 qs3 q59 q368) rfl rfl rfl (by decide +kernel) ⟨Nat.le_of_ble_eq_true rfl, Nat.le_of_ble_eq_true rfl⟩) hC hS (fun _ h => h) ⟨(hP.sub (ws' := [(al, .inr (9, [.int mc, .ref ae, .int (nI (cap))])), (ae, .inl (dA 3, cap, .inr (.inr (.inr (.inr g)))))]) [0, 1] rfl), hP2⟩ (va_recv hK hP (ci := 9) (q0 := 0) rfl rfl) rfl rfl hl.1 (Nat.le_of_ble_eq_true rfl) dJ2_add_2_7 ⟨by first | exact Nat.le_of_ble_eq_true rfl | (show _ ≤ _; simp only [headSpec]; omega), by first | exact Nat.le_of_ble_eq_true rfl | (show _ ≤ _; simp only [headSpec]; omega)⟩ (fun r_2 H locs hQ hF hS => ?_)
    obtain ⟨hQ, hP1, hD1⟩ := hQ
    have hP := hP1
    have hD := hD1
    have hP : va_P D vwCl [(al, .inr (9, [.int mc, .ref r_2, .int (nI (cap))])), (r_2, .inl (dA 3, (capG cap), .inr (.inr (.inr (.inr (va_cpy g (fun _ => none) 0 0 cap))))))] H := hP
    have hD : va_D A [(al, .inr (9, [.int mc, .ref r_2, .int (nI (cap))])), (r_2, .inl (dA 3, (capG cap), .inr (.inr (.inr (.inr (va_cpy g (fun _ => none) 0 0 cap))))))] := hD
    refine lv_astore_n (lv' := [(2, .ref r_2), (0, .ref al), (1, .ref v), (3, .int (nI (cap)))]) hx hb dJ2_add_2_10 rfl hl (by decide) rfl (fun ls hl => ?_)
    refine lv_aload_n hx hb dJ2_add_2_11 rfl (lv_at hl 0 rfl) ?_
    refine lv_iload_n hx hb dJ2_add_2_12 rfl (lv_at hl 3 rfl) ?_
    refine lv_aload_n hx hb dJ2_add_2_13 rfl (lv_at hl 2 rfl) ?_
    refine va_astqM hx hb hK hP hD hS 1 3 rfl rfl ((NtV.any hC (hV.kept hS))) (vp_in_nI (by omega) (by omega)) dJ2_add_2_14 (fun H locs hP hD hS => ?_)
    rw [nI_clamp (by omega)] at hP hD
    have hP : va_P D vwCl [(al, .inr (9, [.int mc, .ref r_2, .int (nI (cap))])), (r_2, .inl (dA 3, (capG cap), .inr (.inr (.inr (.inr (va_up (va_cpy g (fun _ => none) 0 0 cap) cap (some v)))))))] H := hP
    have hD : va_D A [(al, .inr (9, [.int mc, .ref r_2, .int (nI (cap))])), (r_2, .inl (dA 3, (capG cap), .inr (.inr (.inr (.inr (va_up (va_cpy g (fun _ => none) 0 0 cap) cap (some v)))))))] := hD
    refine lv_aload_n hx hb dJ2_add_2_15 rfl (lv_at hl 1 rfl) ?_
    refine lv_iload_n hx hb dJ2_add_2_16 rfl (lv_at hl 3 rfl) ?_
    refine lv_iconst (v := nI (1)) hx hb dJ2_add_2_17 (by decide) ?_
    refine lv_iadd hx hb dJ2_add_2_18 ?_
    refine lv_tope (y := nI (cap + 1)) (nI_add _ _) ?_
    refine va_put (D := D) (ci := 9) (v := .int (nI (cap + 1))) (ty := .int) (C := RJ2) (T := TJ2) (N := 3) hx hb hts in_J2 tyJ2 tyJ2_ok nmJ2 hown hK hP hD hS 0 rfl rfl 2 (by decide) (hts _ q125) (fun _ h9 => h9) rfl (by decide +kernel) rfl rfl (Nat.le_of_ble_eq_true rfl) dJ2_add_2_19 (fun H locs hP hD hS => ?_)
    have hP : va_P D vwCl [(al, .inr (9, [.int mc, .ref r_2, .int (nI (cap + 1))])), (r_2, .inl (dA 3, (capG cap), .inr (.inr (.inr (.inr (va_up (va_cpy g (fun _ => none) 0 0 cap) cap (some v)))))))] H := hP
    have hD : va_D A [(al, .inr (9, [.int mc, .ref r_2, .int (nI (cap + 1))])), (r_2, .inl (dA 3, (capG cap), .inr (.inr (.inr (.inr (va_up (va_cpy g (fun _ => none) 0 0 cap) cap (some v)))))))] := hD
    exact z_vret hx hb hr hS (⟨r_2, trivial, hP, hD⟩) (by omega) (by omega) dJ2_add_2_22

set_option maxHeartbeats 4000000 in
set_option maxRecDepth 100000 in
theorem mJ2_addC (l : Launch) (D : va_G) (dA : Nat → ClassId) (ad : Nat → Nat) (A : Nat → Prop) (sz : Nat) (al : Nat) (mc : Int32) (ae : Nat) (cap : Nat) (g : Nat → Option Nat) (v : Nat) (hA : ∀ q, sz ≤ q → A q) (h1 : 1 ≤ cap) (h2 : cap ≤ 10000) (hD : va_D A [(al, .inr (9, [.int mc, .ref ae, .int (nI (cap))])), (ae, .inl (dA 3, cap, .inr (.inr (.inr (.inr g)))))]) : Met l yJ2_add (ws_ yJ2_add cJ2_add 2 (some .boolean)) ({ frames := 7, cells := 1, slots := (capG cap), locals := 230 }) (va_Pc [.ref al, .ref v] (zP D dA ad A sz (fun H => va_P D vwCl [(al, .inr (9, [.int mc, .ref ae, .int (nI (cap))])), (ae, .inl (dA 3, cap, .inr (.inr (.inr (.inr g)))))] H ∧ NtG D A g cap H ∧ NtV D A v H))) (zQi (fun rz H => ∃ q : Nat, rz = nI (1) ∧ va_P D vwCl [(al, .inr (9, [.int (mc + nI (1)), .ref q, .int (nI (cap + 1))])), (q, .inl (dA 3, (capG cap), .inr (.inr (.inr (.inr (va_up (va_cpy g (fun _ => none) 0 0 cap) cap (some v)))))))] H ∧ va_D A [(al, .inr (9, [.int (mc + nI (1)), .ref q, .int (nI (cap + 1))])), (q, .inl (dA 3, (capG cap), .inr (.inr (.inr (.inr (va_up (va_cpy g (fun _ => none) 0 0 cap) cap (some v)))))))]) A) (1) ((capG cap)) A := by
  refine Met.ofW (cc := cJ2_add) (maxL := 2) (ret := (some .boolean)) (by decide) rfl ?_
  intro p e s m args below meth c s₁ B hml hv
  obtain ⟨rfl, hsz, hC, hP⟩ := hv
  have hx := B.exec
  have hb := B.bytes
  have hr := B.returns
  have hts := atoms_spec (ws := ws_ yJ2_add cJ2_add 2 (some .boolean)) B.pre
  have hts : ∀ w ∈ lw_all, w.before _ s = true := fun w h => hts w (List.mem_cons_of_mem _ h)
  have hown : s.vm.findClass RJ2 = some m.cls := findClass_of_methodNamed B.named
  have hlocks := B.notSynchronized
  subst hsz
  have hK := hC.K
  have hS : va_S A s.heap s.heap [] := va_S.rf
  obtain ⟨hP, hP2⟩ := hP
  have hP : va_P D vwCl [(al, .inr (9, [.int mc, .ref ae, .int (nI (cap))])), (ae, .inl (dA 3, cap, .inr (.inr (.inr (.inr g)))))] s.heap := hP
  have hl := lv_entry ([.ref al, .ref v]) (n := 2) (Nat.le_of_ble_eq_true rfl)
  rw [lg_entry_eq]
  generalize (lg_sl ([.ref al, .ref v]) ++ List.replicate (2 - (lg_sl ([.ref al, .ref v])).length) Slot.unset).toArray = ls at hl ⊢
  have hl : lv_has ls 2 [(0, .ref al), (1, .ref v)] := hl
  refine lv_aload_n hx hb dJ2_add_0 rfl (lv_at hl 0 rfl) ?_
  refine lv_dup hx hb dJ2_add_1 rfl ?_
  refine va_get (D := D) (ci := 9) (v := .int mc) (C := RJ2) (T := TJ2) (N := 3) hx hb hts in_J2 hown hK hP 0 rfl rfl 0 (by decide) (hts _ q129) (u_same (hts _ q128)) rfl dJ2_add_2 ?_
  refine lv_iconst (v := nI (1)) hx hb dJ2_add_5 (by decide) ?_
  refine lv_iadd hx hb dJ2_add_6 ?_
  refine va_put (D := D) (ci := 9) (v := .int (mc + (nI (1)))) (ty := .int) (C := RJ2) (T := TJ2) (N := 3) hx hb hts in_J2 tyJ2 tyJ2_ok nmJ2 hown hK hP hD hS 0 rfl rfl 0 (by decide) (hts _ q129) (u_same (hts _ q128)) rfl (by decide +kernel) rfl rfl (Nat.le_of_ble_eq_true rfl) dJ2_add_7 (fun H locs hP hD hS => ?_)
  have hP : va_P D vwCl [(al, .inr (9, [.int (mc + (nI (1))), .ref ae, .int (nI (cap))])), (ae, .inl (dA 3, cap, .inr (.inr (.inr (.inr g)))))] H := hP
  have hD : va_D A [(al, .inr (9, [.int (mc + (nI (1))), .ref ae, .int (nI (cap))])), (ae, .inl (dA 3, cap, .inr (.inr (.inr (.inr g)))))] := hD
  refine lv_aload_n hx hb dJ2_add_10 rfl (lv_at hl 0 rfl) ?_
  refine lv_aload_n hx hb dJ2_add_11 rfl (lv_at hl 1 rfl) ?_
  refine lv_aload_n hx hb dJ2_add_12 rfl (lv_at hl 0 rfl) ?_
  refine va_get (D := D) (ci := 9) (v := .ref ae) (C := RJ2) (T := TJ2) (N := 3) hx hb hts in_J2 hown hK hP 0 rfl rfl 1 (by decide) (hts _ q122) (fun _ h9 => h9) rfl dJ2_add_13 ?_
  refine lv_aload_n hx hb dJ2_add_16 rfl (lv_at hl 0 rfl) ?_
  refine va_get (D := D) (ci := 9) (v := .int (nI (cap))) (C := RJ2) (T := TJ2) (N := 3) hx hb hts in_J2 hown hK hP 0 rfl rfl 2 (by decide) (hts _ q125) (fun _ h9 => h9) rfl dJ2_add_17 ?_
  refine z_cVv (As := [.ref v, .ref ae, .int (nI (cap))]) (rest := []) ⟨hx, hb, hml, hown, hts⟩ (mJ2_add_2C l D dA ad A H.size al (mc + (nI (1))) ae cap g v (hA_up hA hS) (by omega) (by omega) (hD.sub [0, 1] (by decide) rfl)) (cwV 3 hts (lw_V q361 q363 qs2 q59 q364) rfl rfl rfl (by decide +kernel) ⟨Nat.le_of_ble_eq_true rfl, Nat.le_of_ble_eq_true rfl⟩) hC hS (fun _ h => h) ⟨(hP.sub (ws' := [(al, .inr (9, [.int (mc + (nI (1))), .ref ae, .int (nI (cap))])), (ae, .inl (dA 3, cap, .inr (.inr (.inr (.inr g)))))]) [0, 1] rfl), ⟨hP2.1.kept hS, hP2.2.kept hS⟩⟩ (va_recv hK hP (ci := 9) (q0 := 0) rfl rfl) rfl rfl hl.1 (Nat.le_of_ble_eq_true rfl) dJ2_add_20 ⟨by first | exact Nat.le_of_ble_eq_true rfl | (show _ ≤ _; simp only [headSpec]; omega), by first | exact Nat.le_of_ble_eq_true rfl | (show _ ≤ _; simp only [headSpec]; omega)⟩ (fun H locs hQ hF hS => ?_)
  obtain ⟨q_2, hQ, hP1, hD1⟩ := hQ
  have hP := hP1
  have hD := hD1
  have hP : va_P D vwCl [(al, .inr (9, [.int (mc + (nI (1))), .ref q_2, .int (nI (cap + 1))])), (q_2, .inl (dA 3, (capG cap), .inr (.inr (.inr (.inr (va_up (va_cpy g (fun _ => none) 0 0 cap) cap (some v)))))))] H := hP
  have hD : va_D A [(al, .inr (9, [.int (mc + (nI (1))), .ref q_2, .int (nI (cap + 1))])), (q_2, .inl (dA 3, (capG cap), .inr (.inr (.inr (.inr (va_up (va_cpy g (fun _ => none) 0 0 cap) cap (some v)))))))] := hD
  refine lv_iconst (v := nI (1)) hx hb dJ2_add_23 (by decide) ?_
  exact z_zret (v := nI (1)) hx hb hr (by first | rfl | decide) hS (⟨q_2, rfl, hP, hD⟩) (by decide) (by omega) dJ2_add_24

set_option maxHeartbeats 4000000 in
set_option maxRecDepth 100000 in
theorem mJ2_fastRemove (l : Launch) (D : va_G) (dA : Nat → ClassId) (ad : Nat → Nat) (A : Nat → Prop) (sz : Nat) (al : Nat) (mc : Int32) (ae : Nat) (n : Nat) (cap : Nat) (g : Nat → Option Nat) (hA : ∀ q, sz ≤ q → A q) (h0 : 1 ≤ n) (h1 : n ≤ cap) (h2 : cap ≤ 10000) (hD : va_D A [(al, .inr (9, [.int mc, .ref ae, .int (nI (n))])), (ae, .inl (dA 3, cap, .inr (.inr (.inr (.inr g)))))]) : Met l yJ2_fastRemove (ws_ yJ2_fastRemove cJ2_fastRemove 4 none) ({ frames := 0, cells := 0, slots := 0, locals := 0 }) (va_Pc [.ref al, .ref ae, .int (nI (n - 1))] (zP D dA ad A sz (fun H => va_P D vwCl [(al, .inr (9, [.int mc, .ref ae, .int (nI (n))])), (ae, .inl (dA 3, cap, .inr (.inr (.inr (.inr g)))))] H))) (zQv (fun H => True ∧ va_P D vwCl [(al, .inr (9, [.int (mc + nI (1)), .ref ae, .int (nI (n - 1))])), (ae, .inl (dA 3, cap, .inr (.inr (.inr (.inr (va_up g (n - 1) none))))))] H) A) (0) (0) A := by
  refine Met.ofW (cc := cJ2_fastRemove) (maxL := 4) (ret := none) (by decide) rfl ?_
  intro p e s m args below meth c s₁ B hml hv
  obtain ⟨rfl, hsz, hC, hP⟩ := hv
  have hx := B.exec
  have hb := B.bytes
  have hr := B.returns
  have hts := atoms_spec (ws := ws_ yJ2_fastRemove cJ2_fastRemove 4 none) B.pre
  have hts : ∀ w ∈ lw_all, w.before _ s = true := fun w h => hts w (List.mem_cons_of_mem _ h)
  have hown : s.vm.findClass RJ2 = some m.cls := findClass_of_methodNamed B.named
  have hlocks := B.notSynchronized
  subst hsz
  have hK := hC.K
  have hS : va_S A s.heap s.heap [] := va_S.rf
  have hP : va_P D vwCl [(al, .inr (9, [.int mc, .ref ae, .int (nI (n))])), (ae, .inl (dA 3, cap, .inr (.inr (.inr (.inr g)))))] s.heap := hP
  have hl := lv_entry ([.ref al, .ref ae, .int (nI (n - 1))]) (n := 4) (Nat.le_of_ble_eq_true rfl)
  rw [lg_entry_eq]
  generalize (lg_sl ([.ref al, .ref ae, .int (nI (n - 1))]) ++ List.replicate (4 - (lg_sl ([.ref al, .ref ae, .int (nI (n - 1))])).length) Slot.unset).toArray = ls at hl ⊢
  have hl : lv_has ls 4 [(0, .ref al), (1, .ref ae), (2, .int (nI (n - 1)))] := hl
  refine lv_aload_n hx hb dJ2_fastRemove_0 rfl (lv_at hl 0 rfl) ?_
  refine lv_dup hx hb dJ2_fastRemove_1 rfl ?_
  refine va_get (D := D) (ci := 9) (v := .int mc) (C := RJ2) (T := TJ2) (N := 3) hx hb hts in_J2 hown hK hP 0 rfl rfl 0 (by decide) (hts _ q129) (u_same (hts _ q128)) rfl dJ2_fastRemove_2 ?_
  refine lv_iconst (v := nI (1)) hx hb dJ2_fastRemove_5 (by decide) ?_
  refine lv_iadd hx hb dJ2_fastRemove_6 ?_
  refine va_put (D := D) (ci := 9) (v := .int (mc + (nI (1)))) (ty := .int) (C := RJ2) (T := TJ2) (N := 3) hx hb hts in_J2 tyJ2 tyJ2_ok nmJ2 hown hK hP hD hS 0 rfl rfl 0 (by decide) (hts _ q129) (u_same (hts _ q128)) rfl (by decide +kernel) rfl rfl (Nat.le_of_ble_eq_true rfl) dJ2_fastRemove_7 (fun H locs hP hD hS => ?_)
  have hP : va_P D vwCl [(al, .inr (9, [.int (mc + (nI (1))), .ref ae, .int (nI (n))])), (ae, .inl (dA 3, cap, .inr (.inr (.inr (.inr g)))))] H := hP
  have hD : va_D A [(al, .inr (9, [.int (mc + (nI (1))), .ref ae, .int (nI (n))])), (ae, .inl (dA 3, cap, .inr (.inr (.inr (.inr g)))))] := hD
  refine lv_aload_n hx hb dJ2_fastRemove_10 rfl (lv_at hl 0 rfl) ?_
  refine va_get (D := D) (ci := 9) (v := .int (nI (n))) (C := RJ2) (T := TJ2) (N := 3) hx hb hts in_J2 hown hK hP 0 rfl rfl 2 (by decide) (hts _ q125) (fun _ h9 => h9) rfl dJ2_fastRemove_11 ?_
  refine lv_iconst (v := nI (1)) hx hb dJ2_fastRemove_14 (by decide) ?_
  refine lv_isub hx hb dJ2_fastRemove_15 ?_
  refine lv_tope (y := nI (n - 1)) (pk_sub (by omega)) ?_
  refine lv_dup hx hb dJ2_fastRemove_16 rfl ?_
  refine lv_istore_n (lv' := [(3, .int (nI (n - 1))), (0, .ref al), (1, .ref ae), (2, .int (nI (n - 1)))]) hx hb dJ2_fastRemove_17 rfl hl (by decide) rfl (fun ls hl => ?_)
  refine lv_iload_n hx hb dJ2_fastRemove_18 rfl (lv_at hl 3 rfl) ?_
  refine lv_icmp_le (tgt := 34) hx hb dJ2_fastRemove_19 (by decide) (fun c_1 => ?_) (fun c_1 => ?_)
  · have c_1 := (nI_leI (by omega) (by omega)).1 c_1
    refine lv_aload_n hx hb dJ2_fastRemove_34 rfl (lv_at hl 2 rfl) ?_
    refine lv_aload_n hx hb dJ2_fastRemove_35 rfl (lv_at hl 1 rfl) ?_
    refine lv_iload_n hx hb dJ2_fastRemove_36 rfl (lv_at hl 0 rfl) ?_
    refine lv_dup_x1 hx hb dJ2_fastRemove_37 rfl rfl ?_
    refine va_put (D := D) (ci := 9) (v := .int (nI (n - 1))) (ty := .int) (C := RJ2) (T := TJ2) (N := 3) hx hb hts in_J2 tyJ2 tyJ2_ok nmJ2 hown hK hP hD hS 0 rfl rfl 2 (by decide) (hts _ q125) (fun _ h9 => h9) rfl (by decide +kernel) rfl rfl (Nat.le_of_ble_eq_true rfl) dJ2_fastRemove_38 (fun H locs hP hD hS => ?_)
    have hP : va_P D vwCl [(al, .inr (9, [.int (mc + (nI (1))), .ref ae, .int (nI (n - 1))])), (ae, .inl (dA 3, cap, .inr (.inr (.inr (.inr g)))))] H := hP
    have hD : va_D A [(al, .inr (9, [.int (mc + (nI (1))), .ref ae, .int (nI (n - 1))])), (ae, .inl (dA 3, cap, .inr (.inr (.inr (.inr g)))))] := hD
    refine lv_null hx hb dJ2_fastRemove_41 ?_
    refine va_astqN hx hb hK hP hD hS 1 3 rfl rfl (vp_in_nI (by omega) (by omega)) dJ2_fastRemove_42 (fun H locs hP hD hS => ?_)
    rw [nI_clamp (by omega)] at hP hD
    have hP : va_P D vwCl [(al, .inr (9, [.int (mc + (nI (1))), .ref ae, .int (nI (n - 1))])), (ae, .inl (dA 3, cap, .inr (.inr (.inr (.inr (va_up g (n - 1) none))))))] H := hP
    have hD : va_D A [(al, .inr (9, [.int (mc + (nI (1))), .ref ae, .int (nI (n - 1))])), (ae, .inl (dA 3, cap, .inr (.inr (.inr (.inr (va_up g (n - 1) none))))))] := hD
    exact z_vret hx hb hr hS (⟨trivial, hP⟩) (by omega) (by omega) dJ2_fastRemove_43
  · have c_1 := mt (nI_leI (by omega) (by omega)).2 c_1
    omega

set_option maxHeartbeats 4000000 in
set_option maxRecDepth 100000 in
theorem mJ2_remove (l : Launch) (D : va_G) (dA : Nat → ClassId) (ad : Nat → Nat) (A : Nat → Prop) (sz : Nat) (al : Nat) (mc : Int32) (ae : Nat) (n : Nat) (cap : Nat) (g : Nat → Option Nat) (y : Nat) (hA : ∀ q, sz ≤ q → A q) (h0 : 1 ≤ n) (h1 : n ≤ cap) (h2 : cap ≤ 10000) (hg : g (n - 1) = some y) (hD : va_D A [(al, .inr (9, [.int mc, .ref ae, .int (nI (n))])), (ae, .inl (dA 3, cap, .inr (.inr (.inr (.inr g)))))]) : Met l yJ2_remove (ws_ yJ2_remove cJ2_remove 4 (some (.object "java/lang/Object"))) ({ frames := 2, cells := 0, slots := 0, locals := 60 }) (va_Pc [.ref al, .int (nI (n - 1))] (zP D dA ad A sz (fun H => va_P D vwCl [(al, .inr (9, [.int mc, .ref ae, .int (nI (n))])), (ae, .inl (dA 3, cap, .inr (.inr (.inr (.inr g)))))] H))) (zQr (fun rz H => rz = y ∧ va_P D vwCl [(al, .inr (9, [.int (mc + nI (1)), .ref ae, .int (nI (n - 1))])), (ae, .inl (dA 3, cap, .inr (.inr (.inr (.inr (va_up g (n - 1) none))))))] H) A) (0) (0) A := by
  refine Met.ofW (cc := cJ2_remove) (maxL := 4) (ret := (some (.object "java/lang/Object"))) (by decide) rfl ?_
  intro p e s m args below meth c s₁ B hml hv
  obtain ⟨rfl, hsz, hC, hP⟩ := hv
  have hx := B.exec
  have hb := B.bytes
  have hr := B.returns
  have hts := atoms_spec (ws := ws_ yJ2_remove cJ2_remove 4 (some (.object "java/lang/Object"))) B.pre
  have hts : ∀ w ∈ lw_all, w.before _ s = true := fun w h => hts w (List.mem_cons_of_mem _ h)
  have hown : s.vm.findClass RJ2 = some m.cls := findClass_of_methodNamed B.named
  have hlocks := B.notSynchronized
  subst hsz
  have hK := hC.K
  have hS : va_S A s.heap s.heap [] := va_S.rf
  have hP : va_P D vwCl [(al, .inr (9, [.int mc, .ref ae, .int (nI (n))])), (ae, .inl (dA 3, cap, .inr (.inr (.inr (.inr g)))))] s.heap := hP
  have hl := lv_entry ([.ref al, .int (nI (n - 1))]) (n := 4) (Nat.le_of_ble_eq_true rfl)
  rw [lg_entry_eq]
  generalize (lg_sl ([.ref al, .int (nI (n - 1))]) ++ List.replicate (4 - (lg_sl ([.ref al, .int (nI (n - 1))])).length) Slot.unset).toArray = ls at hl ⊢
  have hl : lv_has ls 4 [(0, .ref al), (1, .int (nI (n - 1)))] := hl
  refine lv_iload_n hx hb dJ2_remove_0 rfl (lv_at hl 1 rfl) ?_
  refine lv_aload_n hx hb dJ2_remove_1 rfl (lv_at hl 0 rfl) ?_
  refine va_get (D := D) (ci := 9) (v := .int (nI (n))) (C := RJ2) (T := TJ2) (N := 3) hx hb hts in_J2 hown hK hP 0 rfl rfl 2 (by decide) (hts _ q125) (fun _ h9 => h9) rfl dJ2_remove_2 ?_
  refine z_cSi (As := [.int (nI (n - 1)), .int (nI (n))]) (rest := []) ⟨hx, hb, hml, hown, hts⟩ (mJ19_checkIndex l D dA ad s.heap.size (n - 1) n (by omega) (by omega)) (va_cwS 2 hts (lw_S q739 q740 q82 q741) rfl rfl rfl (by decide +kernel) ⟨Nat.le_of_ble_eq_true rfl, Nat.le_of_ble_eq_true rfl⟩) hC hS (fun _ h => hA _ (Nat.le_trans hS.1 h)) trivial rfl rfl hl.1 (Nat.le_of_ble_eq_true rfl) dJ2_remove_5 ⟨Nat.le_of_ble_eq_true rfl, Nat.le_of_ble_eq_true rfl⟩ (fun r_1 H locs hQ hF hS => ?_)
  have hP := va_P.ro hF hP
  obtain rfl : nI ((n - 1)) = r_1 := hQ.symm
  refine lv_pop hx hb dJ2_remove_8 rfl ?_
  refine lv_aload_n hx hb dJ2_remove_9 rfl (lv_at hl 0 rfl) ?_
  refine va_get (D := D) (ci := 9) (v := .ref ae) (C := RJ2) (T := TJ2) (N := 3) hx hb hts in_J2 hown hK hP 0 rfl rfl 1 (by decide) (hts _ q122) (fun _ h9 => h9) rfl dJ2_remove_10 ?_
  refine lv_astore_n (lv' := [(2, .ref ae), (0, .ref al), (1, .int (nI (n - 1)))]) hx hb dJ2_remove_13 rfl hl (by decide) rfl (fun ls hl => ?_)
  refine lv_aload_n hx hb dJ2_remove_14 rfl (lv_at hl 0 rfl) ?_
  refine lv_iload_n hx hb dJ2_remove_15 rfl (lv_at hl 2 rfl) ?_
  refine va_aldq hx hb hK hP 1 3 rfl rfl (vp_in_nI (by omega) (by omega)) dJ2_remove_16 ?_
  refine lv_topv (y := .ref y) (by rw [nI_clamp (by omega)]; rw [hg]; rfl) ?_
  refine lv_astore_n (lv' := [(3, .ref y), (2, .ref ae), (0, .ref al), (1, .int (nI (n - 1)))]) hx hb dJ2_remove_17 rfl hl (by decide) rfl (fun ls hl => ?_)
  refine lv_aload_n hx hb dJ2_remove_18 rfl (lv_at hl 2 rfl) ?_
  refine lv_aload_n hx hb dJ2_remove_19 rfl (lv_at hl 1 rfl) ?_
  refine lv_iload_n hx hb dJ2_remove_20 rfl (lv_at hl 3 rfl) ?_
  refine z_cVv (As := [.ref ae, .int (nI (n - 1))]) (rest := []) ⟨hx, hb, hml, hown, hts⟩ (mJ2_fastRemove l D dA ad A H.size al mc ae n cap g (hA_up hA hS) (by omega) (by omega) (by omega) (hD.sub [0, 1] (by decide) rfl)) (cwV 2 hts (lw_V q757 q759 qs11 q59 q760) rfl rfl rfl (by decide +kernel) ⟨Nat.le_of_ble_eq_true rfl, Nat.le_of_ble_eq_true rfl⟩) hC hS (fun _ h => h) (hP.sub (ws' := [(al, .inr (9, [.int mc, .ref ae, .int (nI (n))])), (ae, .inl (dA 3, cap, .inr (.inr (.inr (.inr g)))))]) [0, 1] rfl) (va_recv hK hP (ci := 9) (q0 := 0) rfl rfl) rfl rfl hl.1 (Nat.le_of_ble_eq_true rfl) dJ2_remove_21 ⟨Nat.le_of_ble_eq_true rfl, Nat.le_of_ble_eq_true rfl⟩ (fun H locs hQ hF hS => ?_)
  obtain ⟨hQ, hP⟩ := hQ
  have hD := va_D.same (ws' := [(al, .inr (9, [.int (mc + nI (1)), .ref ae, .int (nI (n - 1))])), (ae, .inl (dA 3, cap, .inr (.inr (.inr (.inr (va_up g (n - 1) none))))))]) (hD.sub (ws' := [(al, .inr (9, [.int mc, .ref ae, .int (nI (n))])), (ae, .inl (dA 3, cap, .inr (.inr (.inr (.inr g)))))]) [0, 1] (by decide) rfl) rfl
  have hP : va_P D vwCl [(al, .inr (9, [.int (mc + nI (1)), .ref ae, .int (nI (n - 1))])), (ae, .inl (dA 3, cap, .inr (.inr (.inr (.inr (va_up g (n - 1) none))))))] H := hP
  have hD : va_D A [(al, .inr (9, [.int (mc + nI (1)), .ref ae, .int (nI (n - 1))])), (ae, .inl (dA 3, cap, .inr (.inr (.inr (.inr (va_up g (n - 1) none))))))] := hD
  refine lv_aload_n hx hb dJ2_remove_24 rfl (lv_at hl 0 rfl) ?_
  exact z_aret (v := y) hx hb hr (Or.inl ⟨_, rfl⟩) hS (⟨rfl, hP⟩) (by omega) (by omega) dJ2_remove_25
