set_option maxHeartbeats 4000000 in
set_option maxRecDepth 100000 in
theorem mX4_in (l : Launch) (D : va_G) (dA : Nat → ClassId) (ad : Nat → Nat) (sz : Nat) (v : Int32) (a : Int32) (b : Int32) : Met l yX4_in (ws_ yX4_in cX4_in 3 (some .boolean)) ({ frames := 0, cells := 0, slots := 0, locals := 0 }) (va_Pc [.int v, .int a, .int b] (zP D dA ad (fun q => sz ≤ q) sz (fun H => True))) (zQi (fun rz H => rz = bI (a ≤ v ∧ v ≤ b)) (fun q => sz ≤ q)) (0) (0) (fun q => sz ≤ q) := by
  refine Met.ofW (cc := cX4_in) (maxL := 3) (ret := (some .boolean)) (by decide) rfl ?_
  intro p e s m args below meth c s₁ B hml hv
  obtain ⟨rfl, hsz, hC, hP⟩ := hv
  have hx := B.exec
  have hb := B.bytes
  have hr := B.returns
  have hts := atoms_spec (ws := ws_ yX4_in cX4_in 3 (some .boolean)) B.pre
  have hts : ∀ w ∈ lw_all, w.before _ s = true := fun w h => hts w (List.mem_cons_of_mem _ h)
  have hown : s.vm.findClass RX4 = some m.cls := findClass_of_methodNamed B.named
  have hlocks := B.notSynchronized
  subst hsz
  have hK := hC.K
  have hA : ∀ q : Nat, s.heap.size ≤ q → s.heap.size ≤ q := fun _ h => h
  have hS : va_S (fun q => s.heap.size ≤ q) s.heap s.heap [] := va_S.rf
  have hP : va_P D vwCl [] s.heap := va_Pnil
  have hl := lv_entry ([.int v, .int a, .int b]) (n := 3) (Nat.le_of_ble_eq_true rfl)
  rw [lg_entry_eq]
  generalize (lg_sl ([.int v, .int a, .int b]) ++ List.replicate (3 - (lg_sl ([.int v, .int a, .int b])).length) Slot.unset).toArray = ls at hl ⊢
  have hl : lv_has ls 3 [(0, .int v), (1, .int a), (2, .int b)] := hl
  refine lv_iload_n hx hb dX4_in_0 rfl (lv_at hl 0 rfl) ?_
  refine lv_iload_n hx hb dX4_in_1 rfl (lv_at hl 1 rfl) ?_
  refine lv_icmp_lt (tgt := 14) hx hb dX4_in_2 (by decide) (fun c_1 => ?_) (fun c_1 => ?_)
  · refine lv_iconst (v := nI (0)) hx hb dX4_in_14 (by decide) ?_
    exact z_zret (v := nI (0)) hx hb hr (by first | rfl | decide) hS (by first | exact (bI_t ⟨Int32.not_lt.1 (by assumption), Int32.not_lt.1 (by assumption)⟩).symm | exact (bI_f (fun q => absurd q.1 (Int32.not_le.2 (by assumption)))).symm | exact (bI_f (fun q => absurd q.2 (Int32.not_le.2 (by assumption)))).symm) (by omega) (by omega) dX4_in_15
  · refine lv_iload_n hx hb dX4_in_5 rfl (lv_at hl 0 rfl) ?_
    refine lv_iload_n hx hb dX4_in_6 rfl (lv_at hl 2 rfl) ?_
    refine lv_icmp_gt (tgt := 14) hx hb dX4_in_7 (by decide) (fun c_2 => ?_) (fun c_2 => ?_)
    · refine lv_iconst (v := nI (0)) hx hb dX4_in_14 (by decide) ?_
      exact z_zret (v := nI (0)) hx hb hr (by first | rfl | decide) hS (by first | exact (bI_t ⟨Int32.not_lt.1 (by assumption), Int32.not_lt.1 (by assumption)⟩).symm | exact (bI_f (fun q => absurd q.1 (Int32.not_le.2 (by assumption)))).symm | exact (bI_f (fun q => absurd q.2 (Int32.not_le.2 (by assumption)))).symm) (by omega) (by omega) dX4_in_15
    · refine lv_iconst (v := nI (1)) hx hb dX4_in_10 (by decide) ?_
      refine lv_goto (tgt := 15) hx hb dX4_in_11 (by decide) ?_
      exact z_zret (v := nI (1)) hx hb hr (by first | rfl | decide) hS (by first | exact (bI_t ⟨Int32.not_lt.1 (by assumption), Int32.not_lt.1 (by assumption)⟩).symm | exact (bI_f (fun q => absurd q.1 (Int32.not_le.2 (by assumption)))).symm | exact (bI_f (fun q => absurd q.2 (Int32.not_le.2 (by assumption)))).symm) (by omega) (by omega) dX4_in_15

set_option maxHeartbeats 4000000 in
set_option maxRecDepth 100000 in
theorem mX4_isSlot (l : Launch) (D : va_G) (dA : Nat → ClassId) (ad : Nat → Nat) (sz : Nat) (k : Int32) : Met l yX4_isSlot (ws_ yX4_isSlot cX4_isSlot 1 (some .boolean)) ({ frames := 1, cells := 0, slots := 0, locals := 30 }) (va_Pc [.int k] (zP D dA ad (fun q => sz ≤ q) sz (fun H => True))) (zQi (fun rz H => rz = bI (nI (0) ≤ k ∧ k ≤ nI (2))) (fun q => sz ≤ q)) (0) (0) (fun q => sz ≤ q) := by
  refine Met.ofW (cc := cX4_isSlot) (maxL := 1) (ret := (some .boolean)) (by decide) rfl ?_
  intro p e s m args below meth c s₁ B hml hv
  obtain ⟨rfl, hsz, hC, hP⟩ := hv
  have hx := B.exec
  have hb := B.bytes
  have hr := B.returns
  have hts := atoms_spec (ws := ws_ yX4_isSlot cX4_isSlot 1 (some .boolean)) B.pre
  have hts : ∀ w ∈ lw_all, w.before _ s = true := fun w h => hts w (List.mem_cons_of_mem _ h)
  have hown : s.vm.findClass RX4 = some m.cls := findClass_of_methodNamed B.named
  have hlocks := B.notSynchronized
  subst hsz
  have hK := hC.K
  have hA : ∀ q : Nat, s.heap.size ≤ q → s.heap.size ≤ q := fun _ h => h
  have hS : va_S (fun q => s.heap.size ≤ q) s.heap s.heap [] := va_S.rf
  have hP : va_P D vwCl [] s.heap := va_Pnil
  have hl := lv_entry ([.int k]) (n := 1) (Nat.le_of_ble_eq_true rfl)
  rw [lg_entry_eq]
  generalize (lg_sl ([.int k]) ++ List.replicate (1 - (lg_sl ([.int k])).length) Slot.unset).toArray = ls at hl ⊢
  have hl : lv_has ls 1 [(0, .int k)] := hl
  refine lv_iload_n hx hb dX4_isSlot_0 rfl (lv_at hl 0 rfl) ?_
  refine lv_iconst (v := nI (0)) hx hb dX4_isSlot_1 (by decide) ?_
  refine lv_iconst (v := nI (2)) hx hb dX4_isSlot_2 (by decide) ?_
  refine z_cSi (As := [.int k, .int (nI (0)), .int (nI (2))]) (rest := []) ⟨hx, hb, hml, hown, hts⟩ (mX4_in l D dA ad s.heap.size k (nI (0)) (nI (2))) (va_cwS 3 hts (lw_S q1379 q1380 q67 q1381) rfl rfl rfl (by decide +kernel) ⟨Nat.le_of_ble_eq_true rfl, Nat.le_of_ble_eq_true rfl⟩) hC hS (fun _ h => hA _ (Nat.le_trans hS.1 h)) trivial rfl rfl hl.1 (Nat.le_of_ble_eq_true rfl) dX4_isSlot_3 ⟨Nat.le_of_ble_eq_true rfl, Nat.le_of_ble_eq_true rfl⟩ (fun r_1 H locs hQ hF hS => ?_)
  obtain rfl : bI ((nI (0)) ≤ k ∧ k ≤ (nI (2))) = r_1 := hQ.symm
  exact z_zret (v := bI ((nI (0)) ≤ k ∧ k ≤ (nI (2)))) hx hb hr (bI_nar) hS (rfl) (by omega) (by omega) dX4_isSlot_6

set_option maxHeartbeats 4000000 in
set_option maxRecDepth 100000 in
theorem mX4_isKey (l : Launch) (D : va_G) (dA : Nat → ClassId) (ad : Nat → Nat) (sz : Nat) (k : Int32) : Met l yX4_isKey (ws_ yX4_isKey cX4_isKey 1 (some .boolean)) ({ frames := 1, cells := 0, slots := 0, locals := 30 }) (va_Pc [.int k] (zP D dA ad (fun q => sz ≤ q) sz (fun H => True))) (zQi (fun rz H => rz = bI (nI (0) ≤ k ∧ k ≤ nI (23))) (fun q => sz ≤ q)) (0) (0) (fun q => sz ≤ q) := by
  refine Met.ofW (cc := cX4_isKey) (maxL := 1) (ret := (some .boolean)) (by decide) rfl ?_
  intro p e s m args below meth c s₁ B hml hv
  obtain ⟨rfl, hsz, hC, hP⟩ := hv
  have hx := B.exec
  have hb := B.bytes
  have hr := B.returns
  have hts := atoms_spec (ws := ws_ yX4_isKey cX4_isKey 1 (some .boolean)) B.pre
  have hts : ∀ w ∈ lw_all, w.before _ s = true := fun w h => hts w (List.mem_cons_of_mem _ h)
  have hown : s.vm.findClass RX4 = some m.cls := findClass_of_methodNamed B.named
  have hlocks := B.notSynchronized
  subst hsz
  have hK := hC.K
  have hA : ∀ q : Nat, s.heap.size ≤ q → s.heap.size ≤ q := fun _ h => h
  have hS : va_S (fun q => s.heap.size ≤ q) s.heap s.heap [] := va_S.rf
  have hP : va_P D vwCl [] s.heap := va_Pnil
  have hl := lv_entry ([.int k]) (n := 1) (Nat.le_of_ble_eq_true rfl)
  rw [lg_entry_eq]
  generalize (lg_sl ([.int k]) ++ List.replicate (1 - (lg_sl ([.int k])).length) Slot.unset).toArray = ls at hl ⊢
  have hl : lv_has ls 1 [(0, .int k)] := hl
  refine lv_iload_n hx hb dX4_isKey_0 rfl (lv_at hl 0 rfl) ?_
  refine lv_iconst (v := nI (0)) hx hb dX4_isKey_1 (by decide) ?_
  refine lv_bipush (v := nI (23)) hx hb dX4_isKey_2 (by decide) ?_
  refine z_cSi (As := [.int k, .int (nI (0)), .int (nI (23))]) (rest := []) ⟨hx, hb, hml, hown, hts⟩ (mX4_in l D dA ad s.heap.size k (nI (0)) (nI (23))) (va_cwS 3 hts (lw_S q1379 q1380 q67 q1381) rfl rfl rfl (by decide +kernel) ⟨Nat.le_of_ble_eq_true rfl, Nat.le_of_ble_eq_true rfl⟩) hC hS (fun _ h => hA _ (Nat.le_trans hS.1 h)) trivial rfl rfl hl.1 (Nat.le_of_ble_eq_true rfl) dX4_isKey_4 ⟨Nat.le_of_ble_eq_true rfl, Nat.le_of_ble_eq_true rfl⟩ (fun r_1 H locs hQ hF hS => ?_)
  obtain rfl : bI ((nI (0)) ≤ k ∧ k ≤ (nI (23))) = r_1 := hQ.symm
  exact z_zret (v := bI ((nI (0)) ≤ k ∧ k ≤ (nI (23)))) hx hb hr (bI_nar) hS (rfl) (by omega) (by omega) dX4_isKey_7

set_option maxHeartbeats 4000000 in
set_option maxRecDepth 100000 in
theorem mX4_isStandby (l : Launch) (D : va_G) (dA : Nat → ClassId) (ad : Nat → Nat) (sz : Nat) (k : Int32) : Met l yX4_isStandby (ws_ yX4_isStandby cX4_isStandby 1 (some .boolean)) ({ frames := 1, cells := 0, slots := 0, locals := 30 }) (va_Pc [.int k] (zP D dA ad (fun q => sz ≤ q) sz (fun H => True))) (zQi (fun rz H => rz = bI (nI (0) ≤ k ∧ k ≤ nI (1))) (fun q => sz ≤ q)) (0) (0) (fun q => sz ≤ q) := by
  refine Met.ofW (cc := cX4_isStandby) (maxL := 1) (ret := (some .boolean)) (by decide) rfl ?_
  intro p e s m args below meth c s₁ B hml hv
  obtain ⟨rfl, hsz, hC, hP⟩ := hv
  have hx := B.exec
  have hb := B.bytes
  have hr := B.returns
  have hts := atoms_spec (ws := ws_ yX4_isStandby cX4_isStandby 1 (some .boolean)) B.pre
  have hts : ∀ w ∈ lw_all, w.before _ s = true := fun w h => hts w (List.mem_cons_of_mem _ h)
  have hown : s.vm.findClass RX4 = some m.cls := findClass_of_methodNamed B.named
  have hlocks := B.notSynchronized
  subst hsz
  have hK := hC.K
  have hA : ∀ q : Nat, s.heap.size ≤ q → s.heap.size ≤ q := fun _ h => h
  have hS : va_S (fun q => s.heap.size ≤ q) s.heap s.heap [] := va_S.rf
  have hP : va_P D vwCl [] s.heap := va_Pnil
  have hl := lv_entry ([.int k]) (n := 1) (Nat.le_of_ble_eq_true rfl)
  rw [lg_entry_eq]
  generalize (lg_sl ([.int k]) ++ List.replicate (1 - (lg_sl ([.int k])).length) Slot.unset).toArray = ls at hl ⊢
  have hl : lv_has ls 1 [(0, .int k)] := hl
  refine lv_iload_n hx hb dX4_isStandby_0 rfl (lv_at hl 0 rfl) ?_
  refine lv_iconst (v := nI (0)) hx hb dX4_isStandby_1 (by decide) ?_
  refine lv_iconst (v := nI (1)) hx hb dX4_isStandby_2 (by decide) ?_
  refine z_cSi (As := [.int k, .int (nI (0)), .int (nI (1))]) (rest := []) ⟨hx, hb, hml, hown, hts⟩ (mX4_in l D dA ad s.heap.size k (nI (0)) (nI (1))) (va_cwS 3 hts (lw_S q1379 q1380 q67 q1381) rfl rfl rfl (by decide +kernel) ⟨Nat.le_of_ble_eq_true rfl, Nat.le_of_ble_eq_true rfl⟩) hC hS (fun _ h => hA _ (Nat.le_trans hS.1 h)) trivial rfl rfl hl.1 (Nat.le_of_ble_eq_true rfl) dX4_isStandby_3 ⟨Nat.le_of_ble_eq_true rfl, Nat.le_of_ble_eq_true rfl⟩ (fun r_1 H locs hQ hF hS => ?_)
  obtain rfl : bI ((nI (0)) ≤ k ∧ k ≤ (nI (1))) = r_1 := hQ.symm
  exact z_zret (v := bI ((nI (0)) ≤ k ∧ k ≤ (nI (1)))) hx hb hr (bI_nar) hS (rfl) (by omega) (by omega) dX4_isStandby_6

set_option maxHeartbeats 4000000 in
set_option maxRecDepth 100000 in
theorem mX4_ofRecord (l : Launch) (D : va_G) (dA : Nat → ClassId) (ad : Nat → Nat) (sz : Nat) (m0 : Nat) (sa : Nat) (pa : Nat) (ha : Nat) (xa : Nat) (ta : Nat) (v3 : Int32) (v4 : Int32) (v6 : Int32) (v7 : Int32) (v8 : Int32) (v9 : Int32) (v10 : Int32) (v11 : Int32) (v12 : Int32) (f : Nat → Int32) (r : Nat) (w : Nat) (h1 : 1 ≤ r) (h2 : r ≤ 100) (h3 : w < 5) : Met l yX4_ofRecord (ws_ yX4_ofRecord cX4_ofRecord 3 (some .int)) ({ frames := 0, cells := 0, slots := 0, locals := 0 }) (va_Pc [.ref m0, .int (nI (r)), .int (nI (w))] (zP D dA ad (fun q => sz ≤ q) sz (fun H => va_P D vwCl [(m0, .inr (4, [.ref sa, .ref pa, .ref ha, .int v3, .int v4, .ref xa, .int v6, .int v7, .int v8, .int v9, .int v10, .int v11, .int v12, .ref ta])), (sa, .inl (dA 0, 718, .inl f))] H))) (zQi (fun rz H => rz = rcf f r w) (fun q => sz ≤ q)) (0) (0) (fun q => sz ≤ q) := by
  refine Met.ofW (cc := cX4_ofRecord) (maxL := 3) (ret := (some .int)) (by decide) rfl ?_
  intro p e s m args below meth c s₁ B hml hv
  obtain ⟨rfl, hsz, hC, hP⟩ := hv
  have hx := B.exec
  have hb := B.bytes
  have hr := B.returns
  have hts := atoms_spec (ws := ws_ yX4_ofRecord cX4_ofRecord 3 (some .int)) B.pre
  have hts : ∀ w ∈ lw_all, w.before _ s = true := fun w h => hts w (List.mem_cons_of_mem _ h)
  have hown : s.vm.findClass RX4 = some m.cls := findClass_of_methodNamed B.named
  have hlocks := B.notSynchronized
  subst hsz
  have hK := hC.K
  have hA : ∀ q : Nat, s.heap.size ≤ q → s.heap.size ≤ q := fun _ h => h
  have hS : va_S (fun q => s.heap.size ≤ q) s.heap s.heap [] := va_S.rf
  have hP : va_P D vwCl [(m0, .inr (4, [.ref sa, .ref pa, .ref ha, .int v3, .int v4, .ref xa, .int v6, .int v7, .int v8, .int v9, .int v10, .int v11, .int v12, .ref ta])), (sa, .inl (dA 0, 718, .inl f))] s.heap := hP
  have hl := lv_entry ([.ref m0, .int (nI (r)), .int (nI (w))]) (n := 3) (Nat.le_of_ble_eq_true rfl)
  rw [lg_entry_eq]
  generalize (lg_sl ([.ref m0, .int (nI (r)), .int (nI (w))]) ++ List.replicate (3 - (lg_sl ([.ref m0, .int (nI (r)), .int (nI (w))])).length) Slot.unset).toArray = ls at hl ⊢
  have hl : lv_has ls 3 [(0, .ref m0), (1, .int (nI (r))), (2, .int (nI (w)))] := hl
  refine lv_aload_n hx hb dX4_ofRecord_0 rfl (lv_at hl 0 rfl) ?_
  refine va_get (D := D) (ci := 4) (v := .ref sa) (C := RX4) (T := TX4) (N := 14) hx hb hts in_X4 hown hK hP 0 rfl rfl 0 (by decide) (hts _ q1329) (fun _ h9 => h9) rfl dX4_ofRecord_1 ?_
  refine lv_sipush (v := nI (218)) hx hb dX4_ofRecord_4 (by decide) ?_
  refine lv_iconst (v := nI (5)) hx hb dX4_ofRecord_7 (by decide) ?_
  refine lv_iload_n hx hb dX4_ofRecord_8 rfl (lv_at hl 1 rfl) ?_
  refine lv_imul hx hb dX4_ofRecord_9 ?_
  refine lv_tope (y := nI (5 * r)) (pk_mul _ _) ?_
  refine lv_iadd hx hb dX4_ofRecord_10 ?_
  refine lv_tope (y := nI (218 + (5 * r))) (nI_add _ _) ?_
  refine lv_iconst (v := nI (5)) hx hb dX4_ofRecord_11 (by decide) ?_
  refine lv_isub hx hb dX4_ofRecord_12 ?_
  refine lv_tope (y := nI ((218 + (5 * r)) - 5)) (pk_sub (by omega)) ?_
  refine lv_iload_n hx hb dX4_ofRecord_13 rfl (lv_at hl 2 rfl) ?_
  refine lv_iadd hx hb dX4_ofRecord_14 ?_
  refine lv_tope (y := nI (((218 + (5 * r)) - 5) + w)) (nI_add _ _) ?_
  refine va_iald hx hb hK hP 1 0 rfl rfl (vp_in_nI (by omega) (by omega)) dX4_ofRecord_15 ?_
  refine lv_tope (y := f (((218 + (5 * r)) - 5) + w)) (by rw [nI_clamp (by omega)]) ?_
  exact z_iret (v := f (((218 + (5 * r)) - 5) + w)) hx hb hr hS (by unfold rcf; congr 1; omega) (by omega) (by omega) dX4_ofRecord_16

set_option maxHeartbeats 4000000 in
set_option maxRecDepth 100000 in
theorem mX4_ofStandby (l : Launch) (D : va_G) (dA : Nat → ClassId) (ad : Nat → Nat) (sz : Nat) (m0 : Nat) (sa : Nat) (pa : Nat) (ha : Nat) (xa : Nat) (ta : Nat) (v3 : Int32) (v4 : Int32) (v6 : Int32) (v7 : Int32) (v8 : Int32) (v9 : Int32) (v10 : Int32) (v11 : Int32) (v12 : Int32) (f : Nat → Int32) (b : Nat) (w : Nat) (h1 : b < 2) (h3 : w < 3) : Met l yX4_ofStandby (ws_ yX4_ofStandby cX4_ofStandby 3 (some .int)) ({ frames := 0, cells := 0, slots := 0, locals := 0 }) (va_Pc [.ref m0, .int (nI (b)), .int (nI (w))] (zP D dA ad (fun q => sz ≤ q) sz (fun H => va_P D vwCl [(m0, .inr (4, [.ref sa, .ref pa, .ref ha, .int v3, .int v4, .ref xa, .int v6, .int v7, .int v8, .int v9, .int v10, .int v11, .int v12, .ref ta])), (sa, .inl (dA 0, 718, .inl f))] H))) (zQi (fun rz H => rz = sbf f b w) (fun q => sz ≤ q)) (0) (0) (fun q => sz ≤ q) := by
  refine Met.ofW (cc := cX4_ofStandby) (maxL := 3) (ret := (some .int)) (by decide) rfl ?_
  intro p e s m args below meth c s₁ B hml hv
  obtain ⟨rfl, hsz, hC, hP⟩ := hv
  have hx := B.exec
  have hb := B.bytes
  have hr := B.returns
  have hts := atoms_spec (ws := ws_ yX4_ofStandby cX4_ofStandby 3 (some .int)) B.pre
  have hts : ∀ w ∈ lw_all, w.before _ s = true := fun w h => hts w (List.mem_cons_of_mem _ h)
  have hown : s.vm.findClass RX4 = some m.cls := findClass_of_methodNamed B.named
  have hlocks := B.notSynchronized
  subst hsz
  have hK := hC.K
  have hA : ∀ q : Nat, s.heap.size ≤ q → s.heap.size ≤ q := fun _ h => h
  have hS : va_S (fun q => s.heap.size ≤ q) s.heap s.heap [] := va_S.rf
  have hP : va_P D vwCl [(m0, .inr (4, [.ref sa, .ref pa, .ref ha, .int v3, .int v4, .ref xa, .int v6, .int v7, .int v8, .int v9, .int v10, .int v11, .int v12, .ref ta])), (sa, .inl (dA 0, 718, .inl f))] s.heap := hP
  have hl := lv_entry ([.ref m0, .int (nI (b)), .int (nI (w))]) (n := 3) (Nat.le_of_ble_eq_true rfl)
  rw [lg_entry_eq]
  generalize (lg_sl ([.ref m0, .int (nI (b)), .int (nI (w))]) ++ List.replicate (3 - (lg_sl ([.ref m0, .int (nI (b)), .int (nI (w))])).length) Slot.unset).toArray = ls at hl ⊢
  have hl : lv_has ls 3 [(0, .ref m0), (1, .int (nI (b))), (2, .int (nI (w)))] := hl
  refine lv_aload_n hx hb dX4_ofStandby_0 rfl (lv_at hl 0 rfl) ?_
  refine va_get (D := D) (ci := 4) (v := .ref sa) (C := RX4) (T := TX4) (N := 14) hx hb hts in_X4 hown hK hP 0 rfl rfl 0 (by decide) (hts _ q1329) (fun _ h9 => h9) rfl dX4_ofStandby_1 ?_
  refine lv_bipush (v := nI (12)) hx hb dX4_ofStandby_4 (by decide) ?_
  refine lv_iconst (v := nI (3)) hx hb dX4_ofStandby_6 (by decide) ?_
  refine lv_iload_n hx hb dX4_ofStandby_7 rfl (lv_at hl 1 rfl) ?_
  refine lv_imul hx hb dX4_ofStandby_8 ?_
  refine lv_tope (y := nI (3 * b)) (pk_mul _ _) ?_
  refine lv_iadd hx hb dX4_ofStandby_9 ?_
  refine lv_tope (y := nI (12 + (3 * b))) (nI_add _ _) ?_
  refine lv_iload_n hx hb dX4_ofStandby_10 rfl (lv_at hl 2 rfl) ?_
  refine lv_iadd hx hb dX4_ofStandby_11 ?_
  refine lv_tope (y := nI ((12 + (3 * b)) + w)) (nI_add _ _) ?_
  refine va_iald hx hb hK hP 1 0 rfl rfl (vp_in_nI (by omega) (by omega)) dX4_ofStandby_12 ?_
  refine lv_tope (y := f ((12 + (3 * b)) + w)) (by rw [nI_clamp (by omega)]) ?_
  exact z_iret (v := f ((12 + (3 * b)) + w)) hx hb hr hS (rfl) (by omega) (by omega) dX4_ofStandby_13

set_option maxHeartbeats 4000000 in
set_option maxRecDepth 100000 in
theorem mX4_isGap (l : Launch) (D : va_G) (dA : Nat → ClassId) (ad : Nat → Nat) (sz : Nat) (m0 : Nat) (sa : Nat) (pa : Nat) (ha : Nat) (xa : Nat) (ta : Nat) (v3 : Int32) (v4 : Int32) (v6 : Int32) (v7 : Int32) (v8 : Int32) (v9 : Int32) (v10 : Int32) (v11 : Int32) (v12 : Int32) (f : Nat → Int32) (b : Nat) (r : Nat) (h1 : b < 2) (h2 : 1 ≤ r) (h3 : r ≤ 100) : Met l yX4_isGap (ws_ yX4_isGap cX4_isGap 3 (some .boolean)) ({ frames := 0, cells := 0, slots := 0, locals := 0 }) (va_Pc [.ref m0, .int (nI (b)), .int (nI (r))] (zP D dA ad (fun q => sz ≤ q) sz (fun H => va_P D vwCl [(m0, .inr (4, [.ref sa, .ref pa, .ref ha, .int v3, .int v4, .ref xa, .int v6, .int v7, .int v8, .int v9, .int v10, .int v11, .int v12, .ref ta])), (sa, .inl (dA 0, 718, .inl f))] H))) (zQi (fun rz H => rz = bI (gpf f b r)) (fun q => sz ≤ q)) (0) (0) (fun q => sz ≤ q) := by
  refine Met.ofW (cc := cX4_isGap) (maxL := 3) (ret := (some .boolean)) (by decide) rfl ?_
  intro p e s m args below meth c s₁ B hml hv
  obtain ⟨rfl, hsz, hC, hP⟩ := hv
  have hx := B.exec
  have hb := B.bytes
  have hr := B.returns
  have hts := atoms_spec (ws := ws_ yX4_isGap cX4_isGap 3 (some .boolean)) B.pre
  have hts : ∀ w ∈ lw_all, w.before _ s = true := fun w h => hts w (List.mem_cons_of_mem _ h)
  have hown : s.vm.findClass RX4 = some m.cls := findClass_of_methodNamed B.named
  have hlocks := B.notSynchronized
  subst hsz
  have hK := hC.K
  have hA : ∀ q : Nat, s.heap.size ≤ q → s.heap.size ≤ q := fun _ h => h
  have hS : va_S (fun q => s.heap.size ≤ q) s.heap s.heap [] := va_S.rf
  have hP : va_P D vwCl [(m0, .inr (4, [.ref sa, .ref pa, .ref ha, .int v3, .int v4, .ref xa, .int v6, .int v7, .int v8, .int v9, .int v10, .int v11, .int v12, .ref ta])), (sa, .inl (dA 0, 718, .inl f))] s.heap := hP
  have hl := lv_entry ([.ref m0, .int (nI (b)), .int (nI (r))]) (n := 3) (Nat.le_of_ble_eq_true rfl)
  rw [lg_entry_eq]
  generalize (lg_sl ([.ref m0, .int (nI (b)), .int (nI (r))]) ++ List.replicate (3 - (lg_sl ([.ref m0, .int (nI (b)), .int (nI (r))])).length) Slot.unset).toArray = ls at hl ⊢
  have hl : lv_has ls 3 [(0, .ref m0), (1, .int (nI (b))), (2, .int (nI (r)))] := hl
  refine lv_aload_n hx hb dX4_isGap_0 rfl (lv_at hl 0 rfl) ?_
  refine va_get (D := D) (ci := 4) (v := .ref sa) (C := RX4) (T := TX4) (N := 14) hx hb hts in_X4 hown hK hP 0 rfl rfl 0 (by decide) (hts _ q1329) (fun _ h9 => h9) rfl dX4_isGap_1 ?_
  refine lv_bipush (v := nI (18)) hx hb dX4_isGap_4 (by decide) ?_
  refine lv_bipush (v := nI (100)) hx hb dX4_isGap_6 (by decide) ?_
  refine lv_iload_n hx hb dX4_isGap_8 rfl (lv_at hl 1 rfl) ?_
  refine lv_imul hx hb dX4_isGap_9 ?_
  refine lv_tope (y := nI (100 * b)) (pk_mul _ _) ?_
  refine lv_iadd hx hb dX4_isGap_10 ?_
  refine lv_tope (y := nI (18 + (100 * b))) (nI_add _ _) ?_
  refine lv_iload_n hx hb dX4_isGap_11 rfl (lv_at hl 2 rfl) ?_
  refine lv_iadd hx hb dX4_isGap_12 ?_
  refine lv_tope (y := nI ((18 + (100 * b)) + r)) (nI_add _ _) ?_
  refine lv_iconst (v := nI (1)) hx hb dX4_isGap_13 (by decide) ?_
  refine lv_isub hx hb dX4_isGap_14 ?_
  refine lv_tope (y := nI (((18 + (100 * b)) + r) - 1)) (pk_sub (by omega)) ?_
  refine va_iald hx hb hK hP 1 0 rfl rfl (vp_in_nI (by omega) (by omega)) dX4_isGap_15 ?_
  refine lv_tope (y := f (((18 + (100 * b)) + r) - 1)) (by rw [nI_clamp (by omega)]) ?_
  refine lv_iconst (v := nI (1)) hx hb dX4_isGap_16 (by decide) ?_
  refine lv_icmp_ne (tgt := 24) hx hb dX4_isGap_17 (by decide) (fun c_1 => ?_) (fun c_1 => ?_)
  · refine lv_iconst (v := nI (0)) hx hb dX4_isGap_24 (by decide) ?_
    exact z_zret (v := nI (0)) hx hb hr (by first | rfl | decide) hS (by have e : 18 + 100 * b + r - 1 = 17 + 100 * b + r := (by omega); simp only [e] at *; first | exact (bI_t (by assumption)).symm | exact (bI_f (by assumption)).symm) (by omega) (by omega) dX4_isGap_25
  · refine lv_iconst (v := nI (1)) hx hb dX4_isGap_20 (by decide) ?_
    refine lv_goto (tgt := 25) hx hb dX4_isGap_21 (by decide) ?_
    exact z_zret (v := nI (1)) hx hb hr (by first | rfl | decide) hS (by have e : 18 + 100 * b + r - 1 = 17 + 100 * b + r := (by omega); simp only [e] at *; first | exact (bI_t (by assumption)).symm | exact (bI_f (by assumption)).symm) (by omega) (by omega) dX4_isGap_25

set_option maxHeartbeats 4000000 in
set_option maxRecDepth 100000 in
theorem mX4_lastPut (l : Launch) (D : va_G) (dA : Nat → ClassId) (ad : Nat → Nat) (sz : Nat) (m0 : Nat) (sa : Nat) (pa : Nat) (ha : Nat) (xa : Nat) (ta : Nat) (v3 : Int32) (v4 : Int32) (v6 : Int32) (v7 : Int32) (v8 : Int32) (v9 : Int32) (v10 : Int32) (v11 : Int32) (v12 : Int32) (f : Nat → Int32) (t : Int32) (key : Int32) (n : Nat) (hf0 : f 0 = nI n) (hn : n ≤ 100) : Met l yX4_lastPut (ws_ yX4_lastPut cX4_lastPut 5 (some .int)) ({ frames := 1, cells := 0, slots := 0, locals := 30 }) (va_Pc [.ref m0, .int t, .int key] (zP D dA ad (fun q => sz ≤ q) sz (fun H => va_P D vwCl [(m0, .inr (4, [.ref sa, .ref pa, .ref ha, .int v3, .int v4, .ref xa, .int v6, .int v7, .int v8, .int v9, .int v10, .int v11, .int v12, .ref ta])), (sa, .inl (dA 0, 718, .inl f))] H))) (zQi (fun rz H => rz = nI (lastPut f t key n)) (fun q => sz ≤ q)) (0) (0) (fun q => sz ≤ q) := by
  refine Met.ofW (cc := cX4_lastPut) (maxL := 5) (ret := (some .int)) (by decide) rfl ?_
  intro p e s m args below meth c s₁ B hml hv
  obtain ⟨rfl, hsz, hC, hP⟩ := hv
  have hx := B.exec
  have hb := B.bytes
  have hr := B.returns
  have hts := atoms_spec (ws := ws_ yX4_lastPut cX4_lastPut 5 (some .int)) B.pre
  have hts : ∀ w ∈ lw_all, w.before _ s = true := fun w h => hts w (List.mem_cons_of_mem _ h)
  have hown : s.vm.findClass RX4 = some m.cls := findClass_of_methodNamed B.named
  have hlocks := B.notSynchronized
  subst hsz
  have hK := hC.K
  have hA : ∀ q : Nat, s.heap.size ≤ q → s.heap.size ≤ q := fun _ h => h
  have hS : va_S (fun q => s.heap.size ≤ q) s.heap s.heap [] := va_S.rf
  have hP : va_P D vwCl [(m0, .inr (4, [.ref sa, .ref pa, .ref ha, .int v3, .int v4, .ref xa, .int v6, .int v7, .int v8, .int v9, .int v10, .int v11, .int v12, .ref ta])), (sa, .inl (dA 0, 718, .inl f))] s.heap := hP
  have hl := lv_entry ([.ref m0, .int t, .int key]) (n := 5) (Nat.le_of_ble_eq_true rfl)
  rw [lg_entry_eq]
  generalize (lg_sl ([.ref m0, .int t, .int key]) ++ List.replicate (5 - (lg_sl ([.ref m0, .int t, .int key])).length) Slot.unset).toArray = ls at hl ⊢
  have hl : lv_has ls 5 [(0, .ref m0), (1, .int t), (2, .int key)] := hl
  refine lv_iconst (v := nI (0)) hx hb dX4_lastPut_0 (by decide) ?_
  refine lv_istore_n (lv' := [(3, .int (nI (0))), (0, .ref m0), (1, .int t), (2, .int key)]) hx hb dX4_lastPut_1 rfl hl (by decide) rfl (fun ls hl => ?_)
  refine lv_iconst (v := nI (1)) hx hb dX4_lastPut_2 (by decide) ?_
  refine lv_istore (lv' := [(4, .int (nI (1))), (3, .int (nI (0))), (0, .ref m0), (1, .int t), (2, .int key)]) hx hb dX4_lastPut_3 hl (by decide) rfl (fun ls hl => ?_)
  refine z_loop (σ := Nat) (fun i => n - i) (fun i H locs ls => va_P D vwCl [(m0, .inr (4, [.ref sa, .ref pa, .ref ha, .int v3, .int v4, .ref xa, .int v6, .int v7, .int v8, .int v9, .int v10, .int v11, .int v12, .ref ta])), (sa, .inl (dA 0, 718, .inl f))] H ∧ va_S (fun q => s.heap.size ≤ q) s.heap H locs ∧ lv_has ls 5 [(0, .ref m0), (1, .int t), (2, .int key), (3, .int (nI (lastPut f t key i))), (4, .int (nI (i + 1)))] ∧ i ≤ n) (0) ⟨hP, hS, (lv_sub (l' := [(0, .ref m0), (1, .int t), (2, .int key), (3, .int (nI (lastPut f t key 0))), (4, .int (nI (0 + 1)))]) hl [2, 3, 4, 1, 0] rfl), by omega⟩ ?_
  intro i H locs ls ⟨hP, hS, hl, hi⟩ ih_5
  refine lv_iload hx hb dX4_lastPut_5 (lv_at hl 4 rfl) ?_
  refine lv_aload_n hx hb dX4_lastPut_7 rfl (lv_at hl 0 rfl) ?_
  refine va_get (D := D) (ci := 4) (v := .ref sa) (C := RX4) (T := TX4) (N := 14) hx hb hts in_X4 hown hK hP 0 rfl rfl 0 (by decide) (hts _ q1329) (fun _ h9 => h9) rfl dX4_lastPut_8 ?_
  refine lv_iconst (v := nI (0)) hx hb dX4_lastPut_11 (by decide) ?_
  refine va_iald hx hb hK hP 1 0 rfl rfl (vp_in_nI (by omega) (by omega)) dX4_lastPut_12 ?_
  refine lv_tope (y := f 0) (by rw [nI_clamp (by omega)]) ?_
  refine lv_tope (y := nI (n)) (hf0) ?_
  refine lv_icmp_gt (tgt := 61) hx hb dX4_lastPut_13 (by decide) (fun c_1 => ?_) (fun c_1 => ?_)
  · have c_1 := (nI_ltI (by omega) (by omega)).1 c_1
    refine lv_iload_n hx hb dX4_lastPut_61 rfl (lv_at hl 3 rfl) ?_
    exact z_iret (v := nI (lastPut f t key i)) hx hb hr hS (by rw [show i = n by omega]) (by omega) (by omega) dX4_lastPut_62
  · have c_1 := mt (nI_ltI (by omega) (by omega)).2 c_1
    refine lv_aload_n hx hb dX4_lastPut_16 rfl (lv_at hl 0 rfl) ?_
    refine lv_iload hx hb dX4_lastPut_17 (lv_at hl 4 rfl) ?_
    refine lv_iconst (v := nI (0)) hx hb dX4_lastPut_19 (by decide) ?_
    refine z_cVi (As := [.int (nI (i + 1)), .int (nI (0))]) (rest := []) ⟨hx, hb, hml, hown, hts⟩ (mX4_ofRecord l D dA ad H.size m0 sa pa ha xa ta v3 v4 v6 v7 v8 v9 v10 v11 v12 f (i + 1) 0 (by omega) (by omega) (by omega)) (cwV 2 hts (lw_V q1452 q1454 qs35 q67 q1455) rfl rfl rfl (by decide +kernel) ⟨Nat.le_of_ble_eq_true rfl, Nat.le_of_ble_eq_true rfl⟩) hC hS (fun _ h => hA _ (Nat.le_trans hS.1 h)) (hP.sub (ws' := [(m0, .inr (4, [.ref sa, .ref pa, .ref ha, .int v3, .int v4, .ref xa, .int v6, .int v7, .int v8, .int v9, .int v10, .int v11, .int v12, .ref ta])), (sa, .inl (dA 0, 718, .inl f))]) [0, 1] rfl) (va_recv hK hP (ci := 4) (q0 := 0) rfl rfl) rfl rfl hl.1 (Nat.le_of_ble_eq_true rfl) dX4_lastPut_20 ⟨Nat.le_of_ble_eq_true rfl, Nat.le_of_ble_eq_true rfl⟩ (fun r_2 H locs hQ hF hS => ?_)
    have hP := va_P.ro hF hP
    obtain rfl : rcf f (i + 1) 0 = r_2 := hQ.symm
    refine lv_if_ne (tgt := 53) hx hb dX4_lastPut_23 (by decide) (fun c_3 => ?_) (fun c_3 => ?_)
    · refine lv_iload_n hx hb dX4_lastPut_53 rfl (lv_at hl 3 rfl) ?_
      refine lv_tope (y := nI (lastPut f t key (i + 1))) (by simp [lastPut, *]) ?_
      refine lv_istore_n (lv' := [(3, .int (nI (lastPut f t key (i + 1)))), (0, .ref m0), (1, .int t), (2, .int key), (4, .int (nI (i + 1)))]) hx hb dX4_lastPut_54 rfl hl (by decide) rfl (fun ls hl => ?_)
      refine lv_iinc (v := nI (i + 1 + 1)) (lv' := [(4, .int (nI (i + 1 + 1))), (3, .int (nI (lastPut f t key (i + 1)))), (0, .ref m0), (1, .int t), (2, .int key)]) hx hb dX4_lastPut_55 hl (k := 4) rfl (nI_add _ _) (by decide) rfl (fun ls hl => ?_)
      refine lv_goto (tgt := 5) hx hb dX4_lastPut_58 (by decide) ?_
      exact ih_5 (i + 1) H locs ls ⟨hP, hS, (lv_sub (l' := [(0, .ref m0), (1, .int t), (2, .int key), (3, .int (nI (lastPut f t key (i + 1)))), (4, .int (nI ((i + 1) + 1)))]) hl [2, 3, 4, 1, 0] rfl), by omega⟩ (by omega)
    · refine lv_aload_n hx hb dX4_lastPut_26 rfl (lv_at hl 0 rfl) ?_
      refine lv_iload hx hb dX4_lastPut_27 (lv_at hl 4 rfl) ?_
      refine lv_iconst (v := nI (1)) hx hb dX4_lastPut_29 (by decide) ?_
      refine z_cVi (As := [.int (nI (i + 1)), .int (nI (1))]) (rest := []) ⟨hx, hb, hml, hown, hts⟩ (mX4_ofRecord l D dA ad H.size m0 sa pa ha xa ta v3 v4 v6 v7 v8 v9 v10 v11 v12 f (i + 1) 1 (by omega) (by omega) (by omega)) (cwV 2 hts (lw_V q1452 q1454 qs35 q67 q1455) rfl rfl rfl (by decide +kernel) ⟨Nat.le_of_ble_eq_true rfl, Nat.le_of_ble_eq_true rfl⟩) hC hS (fun _ h => hA _ (Nat.le_trans hS.1 h)) (hP.sub (ws' := [(m0, .inr (4, [.ref sa, .ref pa, .ref ha, .int v3, .int v4, .ref xa, .int v6, .int v7, .int v8, .int v9, .int v10, .int v11, .int v12, .ref ta])), (sa, .inl (dA 0, 718, .inl f))]) [0, 1] rfl) (va_recv hK hP (ci := 4) (q0 := 0) rfl rfl) rfl rfl hl.1 (Nat.le_of_ble_eq_true rfl) dX4_lastPut_30 ⟨Nat.le_of_ble_eq_true rfl, Nat.le_of_ble_eq_true rfl⟩ (fun r_4 H locs hQ hF hS => ?_)
      have hP := va_P.ro hF hP
      obtain rfl : rcf f (i + 1) 1 = r_4 := hQ.symm
      refine lv_iload_n hx hb dX4_lastPut_33 rfl (lv_at hl 1 rfl) ?_
      refine lv_icmp_ne (tgt := 53) hx hb dX4_lastPut_34 (by decide) (fun c_5 => ?_) (fun c_5 => ?_)
      · refine lv_iload_n hx hb dX4_lastPut_53 rfl (lv_at hl 3 rfl) ?_
        refine lv_tope (y := nI (lastPut f t key (i + 1))) (by simp [lastPut, *]) ?_
        refine lv_istore_n (lv' := [(3, .int (nI (lastPut f t key (i + 1)))), (0, .ref m0), (1, .int t), (2, .int key), (4, .int (nI (i + 1)))]) hx hb dX4_lastPut_54 rfl hl (by decide) rfl (fun ls hl => ?_)
        refine lv_iinc (v := nI (i + 1 + 1)) (lv' := [(4, .int (nI (i + 1 + 1))), (3, .int (nI (lastPut f t key (i + 1)))), (0, .ref m0), (1, .int t), (2, .int key)]) hx hb dX4_lastPut_55 hl (k := 4) rfl (nI_add _ _) (by decide) rfl (fun ls hl => ?_)
        refine lv_goto (tgt := 5) hx hb dX4_lastPut_58 (by decide) ?_
        exact ih_5 (i + 1) H locs ls ⟨hP, hS, (lv_sub (l' := [(0, .ref m0), (1, .int t), (2, .int key), (3, .int (nI (lastPut f t key (i + 1)))), (4, .int (nI ((i + 1) + 1)))]) hl [2, 3, 4, 1, 0] rfl), by omega⟩ (by omega)
      · refine lv_aload_n hx hb dX4_lastPut_37 rfl (lv_at hl 0 rfl) ?_
        refine lv_iload hx hb dX4_lastPut_38 (lv_at hl 4 rfl) ?_
        refine lv_iconst (v := nI (2)) hx hb dX4_lastPut_40 (by decide) ?_
        refine z_cVi (As := [.int (nI (i + 1)), .int (nI (2))]) (rest := []) ⟨hx, hb, hml, hown, hts⟩ (mX4_ofRecord l D dA ad H.size m0 sa pa ha xa ta v3 v4 v6 v7 v8 v9 v10 v11 v12 f (i + 1) 2 (by omega) (by omega) (by omega)) (cwV 2 hts (lw_V q1452 q1454 qs35 q67 q1455) rfl rfl rfl (by decide +kernel) ⟨Nat.le_of_ble_eq_true rfl, Nat.le_of_ble_eq_true rfl⟩) hC hS (fun _ h => hA _ (Nat.le_trans hS.1 h)) (hP.sub (ws' := [(m0, .inr (4, [.ref sa, .ref pa, .ref ha, .int v3, .int v4, .ref xa, .int v6, .int v7, .int v8, .int v9, .int v10, .int v11, .int v12, .ref ta])), (sa, .inl (dA 0, 718, .inl f))]) [0, 1] rfl) (va_recv hK hP (ci := 4) (q0 := 0) rfl rfl) rfl rfl hl.1 (Nat.le_of_ble_eq_true rfl) dX4_lastPut_41 ⟨Nat.le_of_ble_eq_true rfl, Nat.le_of_ble_eq_true rfl⟩ (fun r_6 H locs hQ hF hS => ?_)
        have hP := va_P.ro hF hP
        obtain rfl : rcf f (i + 1) 2 = r_6 := hQ.symm
        refine lv_iload_n hx hb dX4_lastPut_44 rfl (lv_at hl 2 rfl) ?_
        refine lv_icmp_ne (tgt := 53) hx hb dX4_lastPut_45 (by decide) (fun c_7 => ?_) (fun c_7 => ?_)
        · refine lv_iload_n hx hb dX4_lastPut_53 rfl (lv_at hl 3 rfl) ?_
          refine lv_tope (y := nI (lastPut f t key (i + 1))) (by simp [lastPut, *]) ?_
          refine lv_istore_n (lv' := [(3, .int (nI (lastPut f t key (i + 1)))), (0, .ref m0), (1, .int t), (2, .int key), (4, .int (nI (i + 1)))]) hx hb dX4_lastPut_54 rfl hl (by decide) rfl (fun ls hl => ?_)
          refine lv_iinc (v := nI (i + 1 + 1)) (lv' := [(4, .int (nI (i + 1 + 1))), (3, .int (nI (lastPut f t key (i + 1)))), (0, .ref m0), (1, .int t), (2, .int key)]) hx hb dX4_lastPut_55 hl (k := 4) rfl (nI_add _ _) (by decide) rfl (fun ls hl => ?_)
          refine lv_goto (tgt := 5) hx hb dX4_lastPut_58 (by decide) ?_
          exact ih_5 (i + 1) H locs ls ⟨hP, hS, (lv_sub (l' := [(0, .ref m0), (1, .int t), (2, .int key), (3, .int (nI (lastPut f t key (i + 1)))), (4, .int (nI ((i + 1) + 1)))]) hl [2, 3, 4, 1, 0] rfl), by omega⟩ (by omega)
        · refine lv_iload hx hb dX4_lastPut_48 (lv_at hl 4 rfl) ?_
          refine lv_goto (tgt := 54) hx hb dX4_lastPut_50 (by decide) ?_
          refine lv_tope (y := nI (lastPut f t key (i + 1))) (by simp [lastPut, *]) ?_
          refine lv_istore_n (lv' := [(3, .int (nI (lastPut f t key (i + 1)))), (0, .ref m0), (1, .int t), (2, .int key), (4, .int (nI (i + 1)))]) hx hb dX4_lastPut_54 rfl hl (by decide) rfl (fun ls hl => ?_)
          refine lv_iinc (v := nI (i + 1 + 1)) (lv' := [(4, .int (nI (i + 1 + 1))), (3, .int (nI (lastPut f t key (i + 1)))), (0, .ref m0), (1, .int t), (2, .int key)]) hx hb dX4_lastPut_55 hl (k := 4) rfl (nI_add _ _) (by decide) rfl (fun ls hl => ?_)
          refine lv_goto (tgt := 5) hx hb dX4_lastPut_58 (by decide) ?_
          exact ih_5 (i + 1) H locs ls ⟨hP, hS, (lv_sub (l' := [(0, .ref m0), (1, .int t), (2, .int key), (3, .int (nI (lastPut f t key (i + 1)))), (4, .int (nI ((i + 1) + 1)))]) hl [2, 3, 4, 1, 0] rfl), by omega⟩ (by omega)
