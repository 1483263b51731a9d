set_option maxHeartbeats 4000000 in
set_option maxRecDepth 100000 in
theorem mX8_reasonA (l : Launch) (D : va_G) (dA : Nat → ClassId) (ad : Nat → Nat) (sz : Nat) (fq : Nat) (v1 : Value) (v2 : Value) (v3 : Value) (v4 : Value) (v5 : Value) (b : Int32) (k : Int32) : Met l yX8_reason (ws_ yX8_reason cX8_reason 1 (some .int)) ({ frames := 3, cells := 0, slots := 0, locals := 80 }) (va_Pc [.ref fq] (zP D dA ad (fun q => sz ≤ q) sz (fun H => va_P D vwCl [(fq, .inr (8, [.null, v1, v2, v3, v4, v5, .int b, .int k]))] H ∧ MonF fq H))) (zQi (fun rz H => rz = nI 1) (fun q => sz ≤ q)) (0) (0) (fun q => sz ≤ q) := by
  refine Met.ofW (cc := cX8_reason) (maxL := 1) (ret := (some .int)) (by decide) rfl ?_
  intro p e s m args below meth c s₁ B hml hv
  obtain ⟨rfl, hsz, hC, hP⟩ := hv
  have hx := B.exec
  have hb := B.bytes
  have hr := B.returns
  have hts := atoms_spec (ws := ws_ yX8_reason cX8_reason 1 (some .int)) B.pre
  have hts : ∀ w ∈ lw_all, w.before _ s = true := fun w h => hts w (List.mem_cons_of_mem _ h)
  have hown : s.vm.findClass RX8 = some m.cls := findClass_of_methodNamed B.named
  have hlocks := B.notSynchronized
  subst hsz
  have hK := hC.K
  have hA : ∀ q : Nat, s.heap.size ≤ q → s.heap.size ≤ q := fun _ h => h
  have hS : va_S (fun q => s.heap.size ≤ q) s.heap s.heap [] := va_S.rf
  obtain ⟨hP, hP2⟩ := hP
  have hP : va_P D vwCl [(fq, .inr (8, [.null, v1, v2, v3, v4, v5, .int b, .int k]))] s.heap := hP
  have hl := lv_entry ([.ref fq]) (n := 1) (Nat.le_of_ble_eq_true rfl)
  rw [lg_entry_eq]
  generalize (lg_sl ([.ref fq]) ++ List.replicate (1 - (lg_sl ([.ref fq])).length) Slot.unset).toArray = ls at hl ⊢
  have hl : lv_has ls 1 [(0, .ref fq)] := hl
  refine lv_aload_n hx hb dX8_reason_0 rfl (lv_at hl 0 rfl) ?_
  refine z_mon hP2 (fun hM9 => ?_)
  refine z_gc (wz := [(fq, .inr (8, [.null, v1, v2, v3, v4, v5, .int b, .int k]))]) (q0 := 0) (r := none) hx hb (hml.trans hl.1.symm) hown hts hC hP rfl rfl (by simp) hM9 (Nat.le_of_ble_eq_true rfl) (Nat.le_of_ble_eq_true rfl) dX8_reason_1 ?_
  refine lv_ifnonnullN hx hb dX8_reason_4 ?_
  refine lv_iconst (v := nI (1)) hx hb dX8_reason_7 (by decide) ?_
  refine lv_goto (tgt := 12) hx hb dX8_reason_8 (by decide) ?_
  exact z_iret (v := nI (1)) hx hb hr hS (rfl) (by omega) (by omega) dX8_reason_12

set_option maxHeartbeats 4000000 in
set_option maxRecDepth 100000 in
theorem mX8_reasonB (l : Launch) (D : va_G) (dA : Nat → ClassId) (ad : Nat → Nat) (sz : Nat) (fq : Nat) (v1 : Value) (v2 : Value) (v3 : Value) (v4 : Value) (v5 : Value) (b : Int32) (k : Int32) (rq : Nat) (w0 : Value) (w1 : Value) (w2 : Value) (w3 : Value) (w4 : Value) (w5 : Value) (x : Int32) (hne : (some rq : Option Nat) ≠ some fq) : Met l yX8_reason (ws_ yX8_reason cX8_reason 1 (some .int)) ({ frames := 3, cells := 0, slots := 0, locals := 80 }) (va_Pc [.ref fq] (zP D dA ad (fun q => sz ≤ q) sz (fun H => va_P D vwCl [(fq, .inr (8, [.ref rq, v1, v2, v3, v4, v5, .int b, .int k])), (rq, .inr (5, [w0, w1, w2, w3, w4, w5, .int x]))] H ∧ MonF fq H))) (zQi (fun rz H => rz = nI 2) (fun q => sz ≤ q)) (0) (0) (fun q => sz ≤ q) := by
  refine Met.ofW (cc := cX8_reason) (maxL := 1) (ret := (some .int)) (by decide) rfl ?_
  intro p e s m args below meth c s₁ B hml hv
  obtain ⟨rfl, hsz, hC, hP⟩ := hv
  have hx := B.exec
  have hb := B.bytes
  have hr := B.returns
  have hts := atoms_spec (ws := ws_ yX8_reason cX8_reason 1 (some .int)) B.pre
  have hts : ∀ w ∈ lw_all, w.before _ s = true := fun w h => hts w (List.mem_cons_of_mem _ h)
  have hown : s.vm.findClass RX8 = some m.cls := findClass_of_methodNamed B.named
  have hlocks := B.notSynchronized
  subst hsz
  have hK := hC.K
  have hA : ∀ q : Nat, s.heap.size ≤ q → s.heap.size ≤ q := fun _ h => h
  have hS : va_S (fun q => s.heap.size ≤ q) s.heap s.heap [] := va_S.rf
  obtain ⟨hP, hP2⟩ := hP
  have hP : va_P D vwCl [(fq, .inr (8, [.ref rq, v1, v2, v3, v4, v5, .int b, .int k])), (rq, .inr (5, [w0, w1, w2, w3, w4, w5, .int x]))] s.heap := hP
  have hl := lv_entry ([.ref fq]) (n := 1) (Nat.le_of_ble_eq_true rfl)
  rw [lg_entry_eq]
  generalize (lg_sl ([.ref fq]) ++ List.replicate (1 - (lg_sl ([.ref fq])).length) Slot.unset).toArray = ls at hl ⊢
  have hl : lv_has ls 1 [(0, .ref fq)] := hl
  refine lv_aload_n hx hb dX8_reason_0 rfl (lv_at hl 0 rfl) ?_
  refine z_mon hP2 (fun hM9 => ?_)
  refine z_gc (wz := [(fq, .inr (8, [.ref rq, v1, v2, v3, v4, v5, .int b, .int k])), (rq, .inr (5, [w0, w1, w2, w3, w4, w5, .int x]))]) (q0 := 0) (r := (some rq)) hx hb (hml.trans hl.1.symm) hown hts hC hP rfl rfl (hne) hM9 (Nat.le_of_ble_eq_true rfl) (Nat.le_of_ble_eq_true rfl) dX8_reason_1 ?_
  refine lv_ifnonnull (tgt := 11) hx hb dX8_reason_4 (by decide) ?_
  refine lv_iconst (v := nI (2)) hx hb dX8_reason_11 (by decide) ?_
  exact z_iret (v := nI (2)) hx hb hr hS (rfl) (by omega) (by omega) dX8_reason_12

set_option maxHeartbeats 4000000 in
set_option maxRecDepth 100000 in
theorem mX8_toldA (l : Launch) (D : va_G) (dA : Nat → ClassId) (ad : Nat → Nat) (sz : Nat) (fq : Nat) (v1 : Value) (v2 : Value) (v3 : Value) (v4 : Value) (v5 : Value) (b : Int32) (k : Int32) : Met l yX8_told (ws_ yX8_told cX8_told 2 (some .int)) ({ frames := 3, cells := 0, slots := 0, locals := 80 }) (va_Pc [.ref fq] (zP D dA ad (fun q => sz ≤ q) sz (fun H => va_P D vwCl [(fq, .inr (8, [.null, v1, v2, v3, v4, v5, .int b, .int k]))] H ∧ MonF fq H))) (zQi (fun rz H => rz = k) (fun q => sz ≤ q)) (0) (0) (fun q => sz ≤ q) := by
  refine Met.ofW (cc := cX8_told) (maxL := 2) (ret := (some .int)) (by decide) rfl ?_
  intro p e s m args below meth c s₁ B hml hv
  obtain ⟨rfl, hsz, hC, hP⟩ := hv
  have hx := B.exec
  have hb := B.bytes
  have hr := B.returns
  have hts := atoms_spec (ws := ws_ yX8_told cX8_told 2 (some .int)) B.pre
  have hts : ∀ w ∈ lw_all, w.before _ s = true := fun w h => hts w (List.mem_cons_of_mem _ h)
  have hown : s.vm.findClass RX8 = some m.cls := findClass_of_methodNamed B.named
  have hlocks := B.notSynchronized
  subst hsz
  have hK := hC.K
  have hA : ∀ q : Nat, s.heap.size ≤ q → s.heap.size ≤ q := fun _ h => h
  have hS : va_S (fun q => s.heap.size ≤ q) s.heap s.heap [] := va_S.rf
  obtain ⟨hP, hP2⟩ := hP
  have hP : va_P D vwCl [(fq, .inr (8, [.null, v1, v2, v3, v4, v5, .int b, .int k]))] s.heap := hP
  have hl := lv_entry ([.ref fq]) (n := 2) (Nat.le_of_ble_eq_true rfl)
  rw [lg_entry_eq]
  generalize (lg_sl ([.ref fq]) ++ List.replicate (2 - (lg_sl ([.ref fq])).length) Slot.unset).toArray = ls at hl ⊢
  have hl : lv_has ls 2 [(0, .ref fq)] := hl
  refine lv_aload_n hx hb dX8_told_0 rfl (lv_at hl 0 rfl) ?_
  refine z_mon hP2 (fun hM9 => ?_)
  refine z_gc (wz := [(fq, .inr (8, [.null, v1, v2, v3, v4, v5, .int b, .int k]))]) (q0 := 0) (r := none) hx hb (hml.trans hl.1.symm) hown hts hC hP rfl rfl (by simp) hM9 (Nat.le_of_ble_eq_true rfl) (Nat.le_of_ble_eq_true rfl) dX8_told_1 ?_
  refine lv_castN hx hb dX8_told_4 ?_
  refine lv_astore_nN (lv' := [(1, .null), (0, .ref fq)]) hx hb dX8_told_7 rfl hl (by decide) rfl (fun ls hl => ?_)
  refine lv_aload_nN hx hb dX8_told_8 rfl (lv_at hl 0 rfl) ?_
  refine lv_ifnonnullN hx hb dX8_told_9 ?_
  refine lv_aload_n hx hb dX8_told_12 rfl (lv_at hl 1 rfl) ?_
  refine va_get (D := D) (ci := 8) (v := .int k) (C := RX8) (T := TX8) (N := 8) hx hb hts in_X8 hown hK hP 0 rfl rfl 7 (by decide) (hts _ q1274) (fun _ h9 => h9) rfl dX8_told_13 ?_
  refine lv_goto (tgt := 23) hx hb dX8_told_16 (by decide) ?_
  exact z_iret (v := k) hx hb hr hS (rfl) (by omega) (by omega) dX8_told_23

set_option maxHeartbeats 4000000 in
set_option maxRecDepth 100000 in
theorem mX8_toldB (l : Launch) (D : va_G) (dA : Nat → ClassId) (ad : Nat → Nat) (sz : Nat) (fq : Nat) (v1 : Value) (v2 : Value) (v3 : Value) (v4 : Value) (v5 : Value) (b : Int32) (k : Int32) (rq : Nat) (w0 : Value) (w1 : Value) (w2 : Value) (w3 : Value) (w4 : Value) (w5 : Value) (x : Int32) (hne : (some rq : Option Nat) ≠ some fq) : Met l yX8_told (ws_ yX8_told cX8_told 2 (some .int)) ({ frames := 3, cells := 0, slots := 0, locals := 80 }) (va_Pc [.ref fq] (zP D dA ad (fun q => sz ≤ q) sz (fun H => va_P D vwCl [(fq, .inr (8, [.ref rq, v1, v2, v3, v4, v5, .int b, .int k])), (rq, .inr (5, [w0, w1, w2, w3, w4, w5, .int x]))] H ∧ MonF fq H))) (zQi (fun rz H => rz = x) (fun q => sz ≤ q)) (0) (0) (fun q => sz ≤ q) := by
  refine Met.ofW (cc := cX8_told) (maxL := 2) (ret := (some .int)) (by decide) rfl ?_
  intro p e s m args below meth c s₁ B hml hv
  obtain ⟨rfl, hsz, hC, hP⟩ := hv
  have hx := B.exec
  have hb := B.bytes
  have hr := B.returns
  have hts := atoms_spec (ws := ws_ yX8_told cX8_told 2 (some .int)) B.pre
  have hts : ∀ w ∈ lw_all, w.before _ s = true := fun w h => hts w (List.mem_cons_of_mem _ h)
  have hown : s.vm.findClass RX8 = some m.cls := findClass_of_methodNamed B.named
  have hlocks := B.notSynchronized
  subst hsz
  have hK := hC.K
  have hA : ∀ q : Nat, s.heap.size ≤ q → s.heap.size ≤ q := fun _ h => h
  have hS : va_S (fun q => s.heap.size ≤ q) s.heap s.heap [] := va_S.rf
  obtain ⟨hP, hP2⟩ := hP
  have hP : va_P D vwCl [(fq, .inr (8, [.ref rq, v1, v2, v3, v4, v5, .int b, .int k])), (rq, .inr (5, [w0, w1, w2, w3, w4, w5, .int x]))] s.heap := hP
  have hl := lv_entry ([.ref fq]) (n := 2) (Nat.le_of_ble_eq_true rfl)
  rw [lg_entry_eq]
  generalize (lg_sl ([.ref fq]) ++ List.replicate (2 - (lg_sl ([.ref fq])).length) Slot.unset).toArray = ls at hl ⊢
  have hl : lv_has ls 2 [(0, .ref fq)] := hl
  refine lv_aload_n hx hb dX8_told_0 rfl (lv_at hl 0 rfl) ?_
  refine z_mon hP2 (fun hM9 => ?_)
  refine z_gc (wz := [(fq, .inr (8, [.ref rq, v1, v2, v3, v4, v5, .int b, .int k])), (rq, .inr (5, [w0, w1, w2, w3, w4, w5, .int x]))]) (q0 := 0) (r := (some rq)) hx hb (hml.trans hl.1.symm) hown hts hC hP rfl rfl (hne) hM9 (Nat.le_of_ble_eq_true rfl) (Nat.le_of_ble_eq_true rfl) dX8_told_1 ?_
  refine va_castE hx hb hown (hts _ q1318) (va_recv hK hP (ci := 5) (q0 := 1) rfl rfl) dX8_told_4 ?_
  refine lv_astore_n (lv' := [(1, .ref rq), (0, .ref fq)]) hx hb dX8_told_7 rfl hl (by decide) rfl (fun ls hl => ?_)
  refine lv_aload_n hx hb dX8_told_8 rfl (lv_at hl 0 rfl) ?_
  refine lv_ifnonnull (tgt := 19) hx hb dX8_told_9 (by decide) ?_
  refine lv_aload_n hx hb dX8_told_19 rfl (lv_at hl 0 rfl) ?_
  refine va_getN (D := D) (ci := 5) (v := .int x) (C := RX5) (T := TX5) (N := 7) hx hb hts in_X5 hown hK hP 1 rfl rfl 6 (by decide) (Cx.nF hC (List.mem_of_getElem? (i := 30) rfl)) (fun _ h9 => h9) rfl dX8_told_20 ?_
  exact z_iret (v := x) hx hb hr hS (rfl) (by omega) (by omega) dX8_told_23
