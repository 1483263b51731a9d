set_option maxHeartbeats 4000000 in
set_option maxRecDepth 100000 in
theorem mX0_isBetween (l : Launch) (D : va_G) (dA : Nat → ClassId) (ad : Nat → Nat) (sz : Nat) (x : Int64) (lo : Int64) (hi : Int64) : Met l yX0_isBetween (ws_ yX0_isBetween cX0_isBetween 6 (some .boolean)) ({ frames := 0, cells := 0, slots := 0, locals := 0 }) (va_Pc [.long x, .long lo, .long hi] (zP D dA ad (fun q => sz ≤ q) sz (fun H => True))) (zQi (fun rz H => rz = bI (lo ≤ x ∧ x ≤ hi)) (fun q => sz ≤ q)) (0) (0) (fun q => sz ≤ q) := by
  refine Met.ofW (cc := cX0_isBetween) (maxL := 6) (ret := (some .boolean)) (by decide) rfl ?_
  intro p e s m args below meth c s₁ B hml hv
  obtain ⟨rfl, hsz, hC, hP⟩ := hv
  have hx := B.exec
  have hb := B.bytes
  have hr := B.returns
  have hts := atoms_spec (ws := ws_ yX0_isBetween cX0_isBetween 6 (some .boolean)) B.pre
  have hts : ∀ w ∈ lw_all, w.before _ s = true := fun w h => hts w (List.mem_cons_of_mem _ h)
  have hown : s.vm.findClass RX0 = some m.cls := findClass_of_methodNamed B.named
  have hlocks := B.notSynchronized
  subst hsz
  have hK := hC.K
  have hA : ∀ q : Nat, s.heap.size ≤ q → s.heap.size ≤ q := fun _ h => h
  have hS : va_S (fun q => s.heap.size ≤ q) s.heap s.heap [] := va_S.rf
  have hP : va_P D vwCl [] s.heap := va_Pnil
  have hl := lv_entry ([.long x, .long lo, .long hi]) (n := 6) (Nat.le_of_ble_eq_true rfl)
  rw [lg_entry_eq]
  generalize (lg_sl ([.long x, .long lo, .long hi]) ++ List.replicate (6 - (lg_sl ([.long x, .long lo, .long hi])).length) Slot.unset).toArray = ls at hl ⊢
  have hl : lv_has ls 6 [(0, .long x), (2, .long lo), (4, .long hi)] := hl
  refine lv_lload_n hx hb dX0_isBetween_0 rfl (lv_at hl 0 rfl) ?_
  refine lv_lload_n hx hb dX0_isBetween_1 rfl (lv_at hl 1 rfl) ?_
  refine W.lcmp hx hb dX0_isBetween_2 ?_
  refine lv_if_lt (tgt := 17) hx hb dX0_isBetween_3 (by decide) (fun c_1 => ?_) (fun c_1 => ?_)
  · have c_1 := (lg_cmp_lt _ _).1 c_1
    refine lv_iconst (v := nI (0)) hx hb dX0_isBetween_17 (by decide) ?_
    exact z_zret (v := nI (0)) hx hb hr (by first | rfl | decide) hS ((bI_f (fun q => absurd c_1 (Int64.not_lt.2 q.1))).symm) (by omega) (by omega) dX0_isBetween_18
  · have c_1 := mt (lg_cmp_lt _ _).2 c_1
    refine lv_lload_n hx hb dX0_isBetween_6 rfl (lv_at hl 0 rfl) ?_
    refine lv_lload hx hb dX0_isBetween_7 (lv_at hl 2 rfl) ?_
    refine W.lcmp hx hb dX0_isBetween_9 ?_
    refine lv_if_gt (tgt := 17) hx hb dX0_isBetween_10 (by decide) (fun c_2 => ?_) (fun c_2 => ?_)
    · have c_2 := (lg_cmp_gt _ _).1 c_2
      refine lv_iconst (v := nI (0)) hx hb dX0_isBetween_17 (by decide) ?_
      exact z_zret (v := nI (0)) hx hb hr (by first | rfl | decide) hS ((bI_f (fun q => absurd c_2 (Int64.not_lt.2 q.2))).symm) (by omega) (by omega) dX0_isBetween_18
    · have c_2 := mt (lg_cmp_gt _ _).2 c_2
      refine lv_iconst (v := nI (1)) hx hb dX0_isBetween_13 (by decide) ?_
      refine lv_goto (tgt := 18) hx hb dX0_isBetween_14 (by decide) ?_
      exact z_zret (v := nI (1)) hx hb hr (by first | rfl | decide) hS ((bI_t ⟨Int64.not_lt.1 c_1, Int64.not_lt.1 c_2⟩).symm) (by omega) (by omega) dX0_isBetween_18

set_option maxHeartbeats 4000000 in
set_option maxRecDepth 100000 in
theorem mX0_isStandby (l : Launch) (D : va_G) (dA : Nat → ClassId) (ad : Nat → Nat) (sz : Nat) (i : Int32) : Met l yX0_isStandby (ws_ yX0_isStandby cX0_isStandby 1 (some .boolean)) ({ frames := 1, cells := 0, slots := 0, locals := 40 }) (va_Pc [.int i] (zP D dA ad (fun q => sz ≤ q) sz (fun H => True))) (zQi (fun rz H => rz = bI (nI 0 ≤ i ∧ i ≤ nI 1)) (fun q => sz ≤ q)) (0) (0) (fun q => sz ≤ q) := by
  refine Met.ofW (cc := cX0_isStandby) (maxL := 1) (ret := (some .boolean)) (by decide) rfl ?_
  intro p e s m args below meth c s₁ B hml hv
  obtain ⟨rfl, hsz, hC, hP⟩ := hv
  have hx := B.exec
  have hb := B.bytes
  have hr := B.returns
  have hts := atoms_spec (ws := ws_ yX0_isStandby cX0_isStandby 1 (some .boolean)) B.pre
  have hts : ∀ w ∈ lw_all, w.before _ s = true := fun w h => hts w (List.mem_cons_of_mem _ h)
  have hown : s.vm.findClass RX0 = some m.cls := findClass_of_methodNamed B.named
  have hlocks := B.notSynchronized
  subst hsz
  have hK := hC.K
  have hA : ∀ q : Nat, s.heap.size ≤ q → s.heap.size ≤ q := fun _ h => h
  have hS : va_S (fun q => s.heap.size ≤ q) s.heap s.heap [] := va_S.rf
  have hP : va_P D vwCl [] s.heap := va_Pnil
  have hl := lv_entry ([.int i]) (n := 1) (Nat.le_of_ble_eq_true rfl)
  rw [lg_entry_eq]
  generalize (lg_sl ([.int i]) ++ List.replicate (1 - (lg_sl ([.int i])).length) Slot.unset).toArray = ls at hl ⊢
  have hl : lv_has ls 1 [(0, .int i)] := hl
  refine lv_iload_n hx hb dX0_isStandby_0 rfl (lv_at hl 0 rfl) ?_
  refine lv_i2l (v := (i).toInt64) hx hb dX0_isStandby_1 (rfl) ?_
  refine lv_lconst (v := lN (0)) hx hb dX0_isStandby_2 (by decide) ?_
  refine lv_lconst (v := lN (1)) hx hb dX0_isStandby_3 (by decide) ?_
  refine z_cSi (As := [.long ((i).toInt64), .long (lN (0)), .long (lN (1))]) (rest := []) ⟨hx, hb, hml, hown, hts⟩ (mX0_isBetween l D dA ad s.heap.size ((i).toInt64) (lN (0)) (lN (1))) (va_cwS 3 hts (lw_S q457 q458 q54 q459) rfl rfl rfl (by decide +kernel) ⟨Nat.le_of_ble_eq_true rfl, Nat.le_of_ble_eq_true rfl⟩) hC hS (fun _ h => hA _ (Nat.le_trans hS.1 h)) trivial rfl rfl hl.1 (Nat.le_of_ble_eq_true rfl) dX0_isStandby_4 ⟨Nat.le_of_ble_eq_true rfl, Nat.le_of_ble_eq_true rfl⟩ (fun r_1 H locs hQ hF hS => ?_)
  obtain rfl : bI ((lN (0)) ≤ ((i).toInt64) ∧ ((i).toInt64) ≤ (lN (1))) = r_1 := hQ.symm
  exact z_zret (v := bI ((lN (0)) ≤ ((i).toInt64) ∧ ((i).toInt64) ≤ (lN (1)))) hx hb hr (bI_nar) hS (btw_ok (by decide) (by decide)) (by omega) (by omega) dX0_isStandby_7

set_option maxHeartbeats 4000000 in
set_option maxRecDepth 100000 in
theorem mX0_isSlot (l : Launch) (D : va_G) (dA : Nat → ClassId) (ad : Nat → Nat) (sz : Nat) (i : Int32) : Met l yX0_isSlot (ws_ yX0_isSlot cX0_isSlot 1 (some .boolean)) ({ frames := 1, cells := 0, slots := 0, locals := 40 }) (va_Pc [.int i] (zP D dA ad (fun q => sz ≤ q) sz (fun H => True))) (zQi (fun rz H => rz = bI (nI 0 ≤ i ∧ i ≤ nI 2)) (fun q => sz ≤ q)) (0) (0) (fun q => sz ≤ q) := by
  refine Met.ofW (cc := cX0_isSlot) (maxL := 1) (ret := (some .boolean)) (by decide) rfl ?_
  intro p e s m args below meth c s₁ B hml hv
  obtain ⟨rfl, hsz, hC, hP⟩ := hv
  have hx := B.exec
  have hb := B.bytes
  have hr := B.returns
  have hts := atoms_spec (ws := ws_ yX0_isSlot cX0_isSlot 1 (some .boolean)) B.pre
  have hts : ∀ w ∈ lw_all, w.before _ s = true := fun w h => hts w (List.mem_cons_of_mem _ h)
  have hown : s.vm.findClass RX0 = some m.cls := findClass_of_methodNamed B.named
  have hlocks := B.notSynchronized
  subst hsz
  have hK := hC.K
  have hA : ∀ q : Nat, s.heap.size ≤ q → s.heap.size ≤ q := fun _ h => h
  have hS : va_S (fun q => s.heap.size ≤ q) s.heap s.heap [] := va_S.rf
  have hP : va_P D vwCl [] s.heap := va_Pnil
  have hl := lv_entry ([.int i]) (n := 1) (Nat.le_of_ble_eq_true rfl)
  rw [lg_entry_eq]
  generalize (lg_sl ([.int i]) ++ List.replicate (1 - (lg_sl ([.int i])).length) Slot.unset).toArray = ls at hl ⊢
  have hl : lv_has ls 1 [(0, .int i)] := hl
  refine lv_iload_n hx hb dX0_isSlot_0 rfl (lv_at hl 0 rfl) ?_
  refine lv_i2l (v := (i).toInt64) hx hb dX0_isSlot_1 (rfl) ?_
  refine lv_lconst (v := lN (0)) hx hb dX0_isSlot_2 (by decide) ?_
  refine lv_ldc2 (v := lN (2)) hx hb hown (hts _ q548) dX0_isSlot_3 ?_
  refine z_cSi (As := [.long ((i).toInt64), .long (lN (0)), .long (lN (2))]) (rest := []) ⟨hx, hb, hml, hown, hts⟩ (mX0_isBetween l D dA ad s.heap.size ((i).toInt64) (lN (0)) (lN (2))) (va_cwS 3 hts (lw_S q457 q458 q54 q459) rfl rfl rfl (by decide +kernel) ⟨Nat.le_of_ble_eq_true rfl, Nat.le_of_ble_eq_true rfl⟩) hC hS (fun _ h => hA _ (Nat.le_trans hS.1 h)) trivial rfl rfl hl.1 (Nat.le_of_ble_eq_true rfl) dX0_isSlot_6 ⟨Nat.le_of_ble_eq_true rfl, Nat.le_of_ble_eq_true rfl⟩ (fun r_1 H locs hQ hF hS => ?_)
  obtain rfl : bI ((lN (0)) ≤ ((i).toInt64) ∧ ((i).toInt64) ≤ (lN (2))) = r_1 := hQ.symm
  exact z_zret (v := bI ((lN (0)) ≤ ((i).toInt64) ∧ ((i).toInt64) ≤ (lN (2)))) hx hb hr (bI_nar) hS (btw_ok (by decide) (by decide)) (by omega) (by omega) dX0_isSlot_9

set_option maxHeartbeats 4000000 in
set_option maxRecDepth 100000 in
theorem mX0_isKey (l : Launch) (D : va_G) (dA : Nat → ClassId) (ad : Nat → Nat) (sz : Nat) (i : Int32) : Met l yX0_isKey (ws_ yX0_isKey cX0_isKey 1 (some .boolean)) ({ frames := 1, cells := 0, slots := 0, locals := 40 }) (va_Pc [.int i] (zP D dA ad (fun q => sz ≤ q) sz (fun H => True))) (zQi (fun rz H => rz = bI (nI 0 ≤ i ∧ i ≤ nI 23)) (fun q => sz ≤ q)) (0) (0) (fun q => sz ≤ q) := by
  refine Met.ofW (cc := cX0_isKey) (maxL := 1) (ret := (some .boolean)) (by decide) rfl ?_
  intro p e s m args below meth c s₁ B hml hv
  obtain ⟨rfl, hsz, hC, hP⟩ := hv
  have hx := B.exec
  have hb := B.bytes
  have hr := B.returns
  have hts := atoms_spec (ws := ws_ yX0_isKey cX0_isKey 1 (some .boolean)) B.pre
  have hts : ∀ w ∈ lw_all, w.before _ s = true := fun w h => hts w (List.mem_cons_of_mem _ h)
  have hown : s.vm.findClass RX0 = some m.cls := findClass_of_methodNamed B.named
  have hlocks := B.notSynchronized
  subst hsz
  have hK := hC.K
  have hA : ∀ q : Nat, s.heap.size ≤ q → s.heap.size ≤ q := fun _ h => h
  have hS : va_S (fun q => s.heap.size ≤ q) s.heap s.heap [] := va_S.rf
  have hP : va_P D vwCl [] s.heap := va_Pnil
  have hl := lv_entry ([.int i]) (n := 1) (Nat.le_of_ble_eq_true rfl)
  rw [lg_entry_eq]
  generalize (lg_sl ([.int i]) ++ List.replicate (1 - (lg_sl ([.int i])).length) Slot.unset).toArray = ls at hl ⊢
  have hl : lv_has ls 1 [(0, .int i)] := hl
  refine lv_iload_n hx hb dX0_isKey_0 rfl (lv_at hl 0 rfl) ?_
  refine lv_i2l (v := (i).toInt64) hx hb dX0_isKey_1 (rfl) ?_
  refine lv_lconst (v := lN (0)) hx hb dX0_isKey_2 (by decide) ?_
  refine lv_ldc2 (v := lN (23)) hx hb hown (hts _ q552) dX0_isKey_3 ?_
  refine z_cSi (As := [.long ((i).toInt64), .long (lN (0)), .long (lN (23))]) (rest := []) ⟨hx, hb, hml, hown, hts⟩ (mX0_isBetween l D dA ad s.heap.size ((i).toInt64) (lN (0)) (lN (23))) (va_cwS 3 hts (lw_S q457 q458 q54 q459) rfl rfl rfl (by decide +kernel) ⟨Nat.le_of_ble_eq_true rfl, Nat.le_of_ble_eq_true rfl⟩) hC hS (fun _ h => hA _ (Nat.le_trans hS.1 h)) trivial rfl rfl hl.1 (Nat.le_of_ble_eq_true rfl) dX0_isKey_6 ⟨Nat.le_of_ble_eq_true rfl, Nat.le_of_ble_eq_true rfl⟩ (fun r_1 H locs hQ hF hS => ?_)
  obtain rfl : bI ((lN (0)) ≤ ((i).toInt64) ∧ ((i).toInt64) ≤ (lN (23))) = r_1 := hQ.symm
  exact z_zret (v := bI ((lN (0)) ≤ ((i).toInt64) ∧ ((i).toInt64) ≤ (lN (23)))) hx hb hr (bI_nar) hS (btw_ok (by decide) (by decide)) (by omega) (by omega) dX0_isKey_9

set_option maxHeartbeats 4000000 in
set_option maxRecDepth 100000 in
theorem mX6_initA (l : Launch) (D : va_G) (dA : Nat → ClassId) (ad : Nat → Nat) (A : Nat → Prop) (sz : Nat) (nt : Nat) (kd : Int32) (tx : Int32) (ky : Int32) (vl : Int32) (tk : Int32) (fa : Nat) (x : Int32) (y : Int32) (z : Int32) (h : Nat → Int32) (hA : ∀ q, sz ≤ q → A q) (hD : va_D A [(nt, .inr (6, [.int kd, .int tx, .int ky, .int vl, .int tk]))]) : Met l yX6_init (ws_ yX6_init cX6_init 5 none) ({ frames := 1, cells := 0, slots := 0, locals := 15 }) (va_Pc [.ref nt, .int x, .int y, .int z, .ref fa] (zP D dA ad A sz (fun H => va_P D vwCl [(nt, .inr (6, [.int kd, .int tx, .int ky, .int vl, .int tk]))] H ∧ zFz D A [(fa, .inl (dA 0, 0, .inl h))] H))) (zQv (fun H => True ∧ va_P D vwCl [(nt, .inr (6, [.int x, .int y, .int (-1), .int (-1), .int z]))] H) A) (0) (0) A := by
  refine Met.ofW (cc := cX6_init) (maxL := 5) (ret := none) (by decide) rfl ?_
  intro p e s m args below meth c s₁ B hml hv
  obtain ⟨rfl, hsz, hC, hP⟩ := hv
  have hx := B.exec
  have hb := B.bytes
  have hr := B.returns
  have hts := atoms_spec (ws := ws_ yX6_init cX6_init 5 none) B.pre
  have hts : ∀ w ∈ lw_all, w.before _ s = true := fun w h => hts w (List.mem_cons_of_mem _ h)
  have hown : s.vm.findClass RX6 = some m.cls := findClass_of_methodNamed B.named
  have hlocks := B.notSynchronized
  have hin : meth.name = "<init>" := (name_of_methodNamed B.named B.method).1
  subst hsz
  have hK := hC.K
  have hS : va_S A s.heap s.heap [] := va_S.rf
  obtain ⟨hP, hZ⟩ := hP
  have hP : va_P D vwCl [(nt, .inr (6, [.int kd, .int tx, .int ky, .int vl, .int tk]))] s.heap := hP
  have hl := lv_entry ([.ref nt, .int x, .int y, .int z, .ref fa]) (n := 5) (Nat.le_of_ble_eq_true rfl)
  rw [lg_entry_eq]
  generalize (lg_sl ([.ref nt, .int x, .int y, .int z, .ref fa]) ++ List.replicate (5 - (lg_sl ([.ref nt, .int x, .int y, .int z, .ref fa])).length) Slot.unset).toArray = ls at hl ⊢
  have hl : lv_has ls 5 [(0, .ref nt), (1, .int x), (2, .int y), (3, .int z), (4, .ref fa)] := hl
  refine lv_aload_n hx hb dX6_init_0 rfl (lv_at hl 0 rfl) ?_
  refine W.objInit hx hb hown (hts _ q650) (hts _ q92) (hts _ q93) rfl (by rw [hml]; exact hl.1) rfl dX6_init_1 (Nat.le_of_ble_eq_true rfl) (Nat.le_of_ble_eq_true rfl) ?_
  refine W.eq (g2 := F0 m 4 ls []) rfl ?_
  refine lv_aload_n hx hb dX6_init_4 rfl (lv_at hl 0 rfl) ?_
  refine lv_iload_n hx hb dX6_init_5 rfl (lv_at hl 1 rfl) ?_
  refine va_putF (D := D) (ci := 6) (v := .int x) (ty := .int) (C := RX6) (T := TX6) (N := 5) hx hb hts in_X6 tyX6 tyX6_ok nmX6 hown hK hP hD hS 0 rfl rfl 0 (by decide) (hts _ q651) (fun _ h9 => h9) rfl hin (by rfl) (by decide +kernel) rfl rfl (Nat.le_of_ble_eq_true rfl) dX6_init_6 (fun H locs hP hD hS => ?_)
  have hP : va_P D vwCl [(nt, .inr (6, [.int x, .int tx, .int ky, .int vl, .int tk]))] H := hP
  have hD : va_D A [(nt, .inr (6, [.int x, .int tx, .int ky, .int vl, .int tk]))] := hD
  refine lv_aload_n hx hb dX6_init_9 rfl (lv_at hl 0 rfl) ?_
  refine lv_iload_n hx hb dX6_init_10 rfl (lv_at hl 2 rfl) ?_
  refine va_putF (D := D) (ci := 6) (v := .int y) (ty := .int) (C := RX6) (T := TX6) (N := 5) hx hb hts in_X6 tyX6 tyX6_ok nmX6 hown hK hP hD hS 0 rfl rfl 1 (by decide) (hts _ q653) (fun _ h9 => h9) rfl hin (by rfl) (by decide +kernel) rfl rfl (Nat.le_of_ble_eq_true rfl) dX6_init_11 (fun H locs hP hD hS => ?_)
  have hP : va_P D vwCl [(nt, .inr (6, [.int x, .int y, .int ky, .int vl, .int tk]))] H := hP
  have hD : va_D A [(nt, .inr (6, [.int x, .int y, .int ky, .int vl, .int tk]))] := hD
  refine lv_aload_n hx hb dX6_init_14 rfl (lv_at hl 0 rfl) ?_
  refine lv_iload_n hx hb dX6_init_15 rfl (lv_at hl 3 rfl) ?_
  refine va_putF (D := D) (ci := 6) (v := .int z) (ty := .int) (C := RX6) (T := TX6) (N := 5) hx hb hts in_X6 tyX6 tyX6_ok nmX6 hown hK hP hD hS 0 rfl rfl 4 (by decide) (hts _ q659) (fun _ h9 => h9) rfl hin (by rfl) (by decide +kernel) rfl rfl (Nat.le_of_ble_eq_true rfl) dX6_init_16 (fun H locs hP hD hS => ?_)
  have hP : va_P D vwCl [(nt, .inr (6, [.int x, .int y, .int ky, .int vl, .int z]))] H := hP
  have hD : va_D A [(nt, .inr (6, [.int x, .int y, .int ky, .int vl, .int z]))] := hD
  refine lv_aload_n hx hb dX6_init_19 rfl (lv_at hl 0 rfl) ?_
  refine lv_aload hx hb dX6_init_20 (lv_at hl 4 rfl) ?_
  refine va_alen (v := nI (0)) hx hb hK (hZ.at hS) 0 0 rfl rfl rfl dX6_init_22 ?_
  refine lv_if_ne (tgt := 30) hx hb dX6_init_23 (by decide) (fun c_1 => ?_) (fun c_1 => ?_)
  · exact absurd c_1 (by decide)
  · refine lv_iconst (v := (-1)) hx hb dX6_init_26 (by decide) ?_
    refine lv_goto (tgt := 34) hx hb dX6_init_27 (by decide) ?_
    refine va_putF (D := D) (ci := 6) (v := .int (-1)) (ty := .int) (C := RX6) (T := TX6) (N := 5) hx hb hts in_X6 tyX6 tyX6_ok nmX6 hown hK hP hD hS 0 rfl rfl 2 (by decide) (hts _ q655) (fun _ h9 => h9) rfl hin (by rfl) (by decide +kernel) rfl rfl (Nat.le_of_ble_eq_true rfl) dX6_init_34 (fun H locs hP hD hS => ?_)
    have hP : va_P D vwCl [(nt, .inr (6, [.int x, .int y, .int (-1), .int vl, .int z]))] H := hP
    have hD : va_D A [(nt, .inr (6, [.int x, .int y, .int (-1), .int vl, .int z]))] := hD
    refine lv_aload_n hx hb dX6_init_37 rfl (lv_at hl 0 rfl) ?_
    refine lv_aload hx hb dX6_init_38 (lv_at hl 4 rfl) ?_
    refine va_alen (v := nI (0)) hx hb hK (hZ.at hS) 0 0 rfl rfl rfl dX6_init_40 ?_
    refine lv_if_ne (tgt := 48) hx hb dX6_init_41 (by decide) (fun c_2 => ?_) (fun c_2 => ?_)
    · exact absurd c_2 (by decide)
    · refine lv_iconst (v := (-1)) hx hb dX6_init_44 (by decide) ?_
      refine lv_goto (tgt := 52) hx hb dX6_init_45 (by decide) ?_
      refine va_putF (D := D) (ci := 6) (v := .int (-1)) (ty := .int) (C := RX6) (T := TX6) (N := 5) hx hb hts in_X6 tyX6 tyX6_ok nmX6 hown hK hP hD hS 0 rfl rfl 3 (by decide) (hts _ q657) (fun _ h9 => h9) rfl hin (by rfl) (by decide +kernel) rfl rfl (Nat.le_of_ble_eq_true rfl) dX6_init_52 (fun H locs hP hD hS => ?_)
      have hP : va_P D vwCl [(nt, .inr (6, [.int x, .int y, .int (-1), .int (-1), .int z]))] H := hP
      have hD : va_D A [(nt, .inr (6, [.int x, .int y, .int (-1), .int (-1), .int z]))] := hD
      exact z_vret hx hb hr hS (⟨trivial, hP⟩) (by omega) (by omega) dX6_init_55

set_option maxHeartbeats 4000000 in
set_option maxRecDepth 100000 in
theorem mX6_initB (l : Launch) (D : va_G) (dA : Nat → ClassId) (ad : Nat → Nat) (A : Nat → Prop) (sz : Nat) (nt : Nat) (kd : Int32) (tx : Int32) (ky : Int32) (vl : Int32) (tk : Int32) (fa : Nat) (x : Int32) (y : Int32) (z : Int32) (h : Nat → Int32) (hA : ∀ q, sz ≤ q → A q) (hD : va_D A [(nt, .inr (6, [.int kd, .int tx, .int ky, .int vl, .int tk]))]) : Met l yX6_init (ws_ yX6_init cX6_init 5 none) ({ frames := 1, cells := 0, slots := 0, locals := 15 }) (va_Pc [.ref nt, .int x, .int y, .int z, .ref fa] (zP D dA ad A sz (fun H => va_P D vwCl [(nt, .inr (6, [.int kd, .int tx, .int ky, .int vl, .int tk]))] H ∧ zFz D A [(fa, .inl (dA 0, 2, .inl h))] H))) (zQv (fun H => True ∧ va_P D vwCl [(nt, .inr (6, [.int x, .int y, .int (h 0), .int (h 1), .int z]))] H) A) (0) (0) A := by
  refine Met.ofW (cc := cX6_init) (maxL := 5) (ret := none) (by decide) rfl ?_
  intro p e s m args below meth c s₁ B hml hv
  obtain ⟨rfl, hsz, hC, hP⟩ := hv
  have hx := B.exec
  have hb := B.bytes
  have hr := B.returns
  have hts := atoms_spec (ws := ws_ yX6_init cX6_init 5 none) B.pre
  have hts : ∀ w ∈ lw_all, w.before _ s = true := fun w h => hts w (List.mem_cons_of_mem _ h)
  have hown : s.vm.findClass RX6 = some m.cls := findClass_of_methodNamed B.named
  have hlocks := B.notSynchronized
  have hin : meth.name = "<init>" := (name_of_methodNamed B.named B.method).1
  subst hsz
  have hK := hC.K
  have hS : va_S A s.heap s.heap [] := va_S.rf
  obtain ⟨hP, hZ⟩ := hP
  have hP : va_P D vwCl [(nt, .inr (6, [.int kd, .int tx, .int ky, .int vl, .int tk]))] s.heap := hP
  have hl := lv_entry ([.ref nt, .int x, .int y, .int z, .ref fa]) (n := 5) (Nat.le_of_ble_eq_true rfl)
  rw [lg_entry_eq]
  generalize (lg_sl ([.ref nt, .int x, .int y, .int z, .ref fa]) ++ List.replicate (5 - (lg_sl ([.ref nt, .int x, .int y, .int z, .ref fa])).length) Slot.unset).toArray = ls at hl ⊢
  have hl : lv_has ls 5 [(0, .ref nt), (1, .int x), (2, .int y), (3, .int z), (4, .ref fa)] := hl
  refine lv_aload_n hx hb dX6_init_0 rfl (lv_at hl 0 rfl) ?_
  refine W.objInit hx hb hown (hts _ q650) (hts _ q92) (hts _ q93) rfl (by rw [hml]; exact hl.1) rfl dX6_init_1 (Nat.le_of_ble_eq_true rfl) (Nat.le_of_ble_eq_true rfl) ?_
  refine W.eq (g2 := F0 m 4 ls []) rfl ?_
  refine lv_aload_n hx hb dX6_init_4 rfl (lv_at hl 0 rfl) ?_
  refine lv_iload_n hx hb dX6_init_5 rfl (lv_at hl 1 rfl) ?_
  refine va_putF (D := D) (ci := 6) (v := .int x) (ty := .int) (C := RX6) (T := TX6) (N := 5) hx hb hts in_X6 tyX6 tyX6_ok nmX6 hown hK hP hD hS 0 rfl rfl 0 (by decide) (hts _ q651) (fun _ h9 => h9) rfl hin (by rfl) (by decide +kernel) rfl rfl (Nat.le_of_ble_eq_true rfl) dX6_init_6 (fun H locs hP hD hS => ?_)
  have hP : va_P D vwCl [(nt, .inr (6, [.int x, .int tx, .int ky, .int vl, .int tk]))] H := hP
  have hD : va_D A [(nt, .inr (6, [.int x, .int tx, .int ky, .int vl, .int tk]))] := hD
  refine lv_aload_n hx hb dX6_init_9 rfl (lv_at hl 0 rfl) ?_
  refine lv_iload_n hx hb dX6_init_10 rfl (lv_at hl 2 rfl) ?_
  refine va_putF (D := D) (ci := 6) (v := .int y) (ty := .int) (C := RX6) (T := TX6) (N := 5) hx hb hts in_X6 tyX6 tyX6_ok nmX6 hown hK hP hD hS 0 rfl rfl 1 (by decide) (hts _ q653) (fun _ h9 => h9) rfl hin (by rfl) (by decide +kernel) rfl rfl (Nat.le_of_ble_eq_true rfl) dX6_init_11 (fun H locs hP hD hS => ?_)
  have hP : va_P D vwCl [(nt, .inr (6, [.int x, .int y, .int ky, .int vl, .int tk]))] H := hP
  have hD : va_D A [(nt, .inr (6, [.int x, .int y, .int ky, .int vl, .int tk]))] := hD
  refine lv_aload_n hx hb dX6_init_14 rfl (lv_at hl 0 rfl) ?_
  refine lv_iload_n hx hb dX6_init_15 rfl (lv_at hl 3 rfl) ?_
  refine va_putF (D := D) (ci := 6) (v := .int z) (ty := .int) (C := RX6) (T := TX6) (N := 5) hx hb hts in_X6 tyX6 tyX6_ok nmX6 hown hK hP hD hS 0 rfl rfl 4 (by decide) (hts _ q659) (fun _ h9 => h9) rfl hin (by rfl) (by decide +kernel) rfl rfl (Nat.le_of_ble_eq_true rfl) dX6_init_16 (fun H locs hP hD hS => ?_)
  have hP : va_P D vwCl [(nt, .inr (6, [.int x, .int y, .int ky, .int vl, .int z]))] H := hP
  have hD : va_D A [(nt, .inr (6, [.int x, .int y, .int ky, .int vl, .int z]))] := hD
  refine lv_aload_n hx hb dX6_init_19 rfl (lv_at hl 0 rfl) ?_
  refine lv_aload hx hb dX6_init_20 (lv_at hl 4 rfl) ?_
  refine va_alen (v := nI (2)) hx hb hK (hZ.at hS) 0 0 rfl rfl rfl dX6_init_22 ?_
  refine lv_if_ne (tgt := 30) hx hb dX6_init_23 (by decide) (fun c_1 => ?_) (fun c_1 => ?_)
  · refine lv_aload hx hb dX6_init_30 (lv_at hl 4 rfl) ?_
    refine lv_iconst (v := nI (0)) hx hb dX6_init_32 (by decide) ?_
    refine va_iald hx hb hK (hZ.at hS) 0 0 rfl rfl (vp_in_nI (by omega) (by omega)) dX6_init_33 ?_
    refine lv_tope (y := h 0) (by rw [nI_clamp (by omega)]) ?_
    refine va_putF (D := D) (ci := 6) (v := .int (h 0)) (ty := .int) (C := RX6) (T := TX6) (N := 5) hx hb hts in_X6 tyX6 tyX6_ok nmX6 hown hK hP hD hS 0 rfl rfl 2 (by decide) (hts _ q655) (fun _ h9 => h9) rfl hin (by rfl) (by decide +kernel) rfl rfl (Nat.le_of_ble_eq_true rfl) dX6_init_34 (fun H locs hP hD hS => ?_)
    have hP : va_P D vwCl [(nt, .inr (6, [.int x, .int y, .int (h 0), .int vl, .int z]))] H := hP
    have hD : va_D A [(nt, .inr (6, [.int x, .int y, .int (h 0), .int vl, .int z]))] := hD
    refine lv_aload_n hx hb dX6_init_37 rfl (lv_at hl 0 rfl) ?_
    refine lv_aload hx hb dX6_init_38 (lv_at hl 4 rfl) ?_
    refine va_alen (v := nI (2)) hx hb hK (hZ.at hS) 0 0 rfl rfl rfl dX6_init_40 ?_
    refine lv_if_ne (tgt := 48) hx hb dX6_init_41 (by decide) (fun c_2 => ?_) (fun c_2 => ?_)
    · refine lv_aload hx hb dX6_init_48 (lv_at hl 4 rfl) ?_
      refine lv_iconst (v := nI (1)) hx hb dX6_init_50 (by decide) ?_
      refine va_iald hx hb hK (hZ.at hS) 0 0 rfl rfl (vp_in_nI (by omega) (by omega)) dX6_init_51 ?_
      refine lv_tope (y := h 1) (by rw [nI_clamp (by omega)]) ?_
      refine va_putF (D := D) (ci := 6) (v := .int (h 1)) (ty := .int) (C := RX6) (T := TX6) (N := 5) hx hb hts in_X6 tyX6 tyX6_ok nmX6 hown hK hP hD hS 0 rfl rfl 3 (by decide) (hts _ q657) (fun _ h9 => h9) rfl hin (by rfl) (by decide +kernel) rfl rfl (Nat.le_of_ble_eq_true rfl) dX6_init_52 (fun H locs hP hD hS => ?_)
      have hP : va_P D vwCl [(nt, .inr (6, [.int x, .int y, .int (h 0), .int (h 1), .int z]))] H := hP
      have hD : va_D A [(nt, .inr (6, [.int x, .int y, .int (h 0), .int (h 1), .int z]))] := hD
      exact z_vret hx hb hr hS (⟨trivial, hP⟩) (by omega) (by omega) dX6_init_55
    · exact absurd c_2 (by decide)
  · exact absurd c_1 (by decide)

set_option maxHeartbeats 4000000 in
set_option maxRecDepth 100000 in
theorem mX6_writtenIn (l : Launch) (D : va_G) (dA : Nat → ClassId) (ad : Nat → Nat) (sz : Nat) (nt : Nat) (kd : Int32) (tx : Int32) (ky : Int32) (vl : Int32) (tk : Int32) : Met l yX6_writtenIn (ws_ yX6_writtenIn cX6_writtenIn 1 (some .int)) ({ frames := 0, cells := 0, slots := 0, locals := 0 }) (va_Pc [.ref nt] (zP D dA ad (fun q => sz ≤ q) sz (fun H => va_P D vwCl [(nt, .inr (6, [.int kd, .int tx, .int ky, .int vl, .int tk]))] H))) (zQi (fun rz H => rz = tk) (fun q => sz ≤ q)) (0) (0) (fun q => sz ≤ q) := by
  refine Met.ofW (cc := cX6_writtenIn) (maxL := 1) (ret := (some .int)) (by decide) rfl ?_
  intro p e s m args below meth c s₁ B hml hv
  obtain ⟨rfl, hsz, hC, hP⟩ := hv
  have hx := B.exec
  have hb := B.bytes
  have hr := B.returns
  have hts := atoms_spec (ws := ws_ yX6_writtenIn cX6_writtenIn 1 (some .int)) B.pre
  have hts : ∀ w ∈ lw_all, w.before _ s = true := fun w h => hts w (List.mem_cons_of_mem _ h)
  have hown : s.vm.findClass RX6 = some m.cls := findClass_of_methodNamed B.named
  have hlocks := B.notSynchronized
  subst hsz
  have hK := hC.K
  have hA : ∀ q : Nat, s.heap.size ≤ q → s.heap.size ≤ q := fun _ h => h
  have hS : va_S (fun q => s.heap.size ≤ q) s.heap s.heap [] := va_S.rf
  have hP : va_P D vwCl [(nt, .inr (6, [.int kd, .int tx, .int ky, .int vl, .int tk]))] s.heap := hP
  have hl := lv_entry ([.ref nt]) (n := 1) (Nat.le_of_ble_eq_true rfl)
  rw [lg_entry_eq]
  generalize (lg_sl ([.ref nt]) ++ List.replicate (1 - (lg_sl ([.ref nt])).length) Slot.unset).toArray = ls at hl ⊢
  have hl : lv_has ls 1 [(0, .ref nt)] := hl
  refine lv_aload_n hx hb dX6_writtenIn_0 rfl (lv_at hl 0 rfl) ?_
  refine va_get (D := D) (ci := 6) (v := .int tk) (C := RX6) (T := TX6) (N := 5) hx hb hts in_X6 hown hK hP 0 rfl rfl 4 (by decide) (hts _ q659) (fun _ h9 => h9) rfl dX6_writtenIn_1 ?_
  exact z_iret (v := tk) hx hb hr hS (rfl) (by omega) (by omega) dX6_writtenIn_4

set_option maxHeartbeats 4000000 in
set_option maxRecDepth 100000 in
theorem mX6_isOf (l : Launch) (D : va_G) (dA : Nat → ClassId) (ad : Nat → Nat) (sz : Nat) (nt : Nat) (kd : Int32) (tx : Int32) (ky : Int32) (vl : Int32) (tk : Int32) (i : Int32) (j : Int32) : Met l yX6_isOf (ws_ yX6_isOf cX6_isOf 3 (some .boolean)) ({ frames := 0, cells := 0, slots := 0, locals := 0 }) (va_Pc [.ref nt, .int i, .int j] (zP D dA ad (fun q => sz ≤ q) sz (fun H => va_P D vwCl [(nt, .inr (6, [.int kd, .int tx, .int ky, .int vl, .int tk]))] H))) (zQi (fun rz H => rz = bI (kd = i ∧ tx = j)) (fun q => sz ≤ q)) (0) (0) (fun q => sz ≤ q) := by
  refine Met.ofW (cc := cX6_isOf) (maxL := 3) (ret := (some .boolean)) (by decide) rfl ?_
  intro p e s m args below meth c s₁ B hml hv
  obtain ⟨rfl, hsz, hC, hP⟩ := hv
  have hx := B.exec
  have hb := B.bytes
  have hr := B.returns
  have hts := atoms_spec (ws := ws_ yX6_isOf cX6_isOf 3 (some .boolean)) B.pre
  have hts : ∀ w ∈ lw_all, w.before _ s = true := fun w h => hts w (List.mem_cons_of_mem _ h)
  have hown : s.vm.findClass RX6 = some m.cls := findClass_of_methodNamed B.named
  have hlocks := B.notSynchronized
  subst hsz
  have hK := hC.K
  have hA : ∀ q : Nat, s.heap.size ≤ q → s.heap.size ≤ q := fun _ h => h
  have hS : va_S (fun q => s.heap.size ≤ q) s.heap s.heap [] := va_S.rf
  have hP : va_P D vwCl [(nt, .inr (6, [.int kd, .int tx, .int ky, .int vl, .int tk]))] s.heap := hP
  have hl := lv_entry ([.ref nt, .int i, .int j]) (n := 3) (Nat.le_of_ble_eq_true rfl)
  rw [lg_entry_eq]
  generalize (lg_sl ([.ref nt, .int i, .int j]) ++ List.replicate (3 - (lg_sl ([.ref nt, .int i, .int j])).length) Slot.unset).toArray = ls at hl ⊢
  have hl : lv_has ls 3 [(0, .ref nt), (1, .int i), (2, .int j)] := hl
  refine lv_aload_n hx hb dX6_isOf_0 rfl (lv_at hl 0 rfl) ?_
  refine va_get (D := D) (ci := 6) (v := .int kd) (C := RX6) (T := TX6) (N := 5) hx hb hts in_X6 hown hK hP 0 rfl rfl 0 (by decide) (hts _ q651) (fun _ h9 => h9) rfl dX6_isOf_1 ?_
  refine lv_iload_n hx hb dX6_isOf_4 rfl (lv_at hl 1 rfl) ?_
  refine lv_icmp_ne (tgt := 20) hx hb dX6_isOf_5 (by decide) (fun c_1 => ?_) (fun c_1 => ?_)
  · refine lv_iconst (v := nI (0)) hx hb dX6_isOf_20 (by decide) ?_
    exact z_zret (v := nI (0)) hx hb hr (by first | rfl | decide) hS ((bI_f (fun q => absurd q.1 c_1)).symm) (by omega) (by omega) dX6_isOf_21
  · refine lv_aload_n hx hb dX6_isOf_8 rfl (lv_at hl 0 rfl) ?_
    refine va_get (D := D) (ci := 6) (v := .int tx) (C := RX6) (T := TX6) (N := 5) hx hb hts in_X6 hown hK hP 0 rfl rfl 1 (by decide) (hts _ q653) (fun _ h9 => h9) rfl dX6_isOf_9 ?_
    refine lv_iload_n hx hb dX6_isOf_12 rfl (lv_at hl 2 rfl) ?_
    refine lv_icmp_ne (tgt := 20) hx hb dX6_isOf_13 (by decide) (fun c_2 => ?_) (fun c_2 => ?_)
    · refine lv_iconst (v := nI (0)) hx hb dX6_isOf_20 (by decide) ?_
      exact z_zret (v := nI (0)) hx hb hr (by first | rfl | decide) hS ((bI_f (fun q => absurd q.2 c_2)).symm) (by omega) (by omega) dX6_isOf_21
    · refine lv_iconst (v := nI (1)) hx hb dX6_isOf_16 (by decide) ?_
      refine lv_goto (tgt := 21) hx hb dX6_isOf_17 (by decide) ?_
      exact z_zret (v := nI (1)) hx hb hr (by first | rfl | decide) hS ((bI_t ⟨c_1, c_2⟩).symm) (by omega) (by omega) dX6_isOf_21

set_option maxHeartbeats 4000000 in
set_option maxRecDepth 100000 in
theorem mX6_told (l : Launch) (D : va_G) (dA : Nat → ClassId) (ad : Nat → Nat) (sz : Nat) (nt : Nat) (kd : Int32) (tx : Int32) (ky : Int32) (vl : Int32) (tk : Int32) (i : Nat) (h1 : i ≤ 4) : Met l yX6_told (ws_ yX6_told cX6_told 2 (some .int)) ({ frames := 0, cells := 0, slots := 0, locals := 0 }) (va_Pc [.ref nt, .int (nI (i))] (zP D dA ad (fun q => sz ≤ q) sz (fun H => va_P D vwCl [(nt, .inr (6, [.int kd, .int tx, .int ky, .int vl, .int tk]))] H))) (zQi (fun rz H => rz = tld kd tx ky vl tk i) (fun q => sz ≤ q)) (0) (0) (fun q => sz ≤ q) := by
  refine Met.ofW (cc := cX6_told) (maxL := 2) (ret := (some .int)) (by decide) rfl ?_
  intro p e s m args below meth c s₁ B hml hv
  obtain ⟨rfl, hsz, hC, hP⟩ := hv
  have hx := B.exec
  have hb := B.bytes
  have hr := B.returns
  have hts := atoms_spec (ws := ws_ yX6_told cX6_told 2 (some .int)) B.pre
  have hts : ∀ w ∈ lw_all, w.before _ s = true := fun w h => hts w (List.mem_cons_of_mem _ h)
  have hown : s.vm.findClass RX6 = some m.cls := findClass_of_methodNamed B.named
  have hlocks := B.notSynchronized
  subst hsz
  have hK := hC.K
  have hA : ∀ q : Nat, s.heap.size ≤ q → s.heap.size ≤ q := fun _ h => h
  have hS : va_S (fun q => s.heap.size ≤ q) s.heap s.heap [] := va_S.rf
  have hP : va_P D vwCl [(nt, .inr (6, [.int kd, .int tx, .int ky, .int vl, .int tk]))] s.heap := hP
  have hl := lv_entry ([.ref nt, .int (nI (i))]) (n := 2) (Nat.le_of_ble_eq_true rfl)
  rw [lg_entry_eq]
  generalize (lg_sl ([.ref nt, .int (nI (i))]) ++ List.replicate (2 - (lg_sl ([.ref nt, .int (nI (i))])).length) Slot.unset).toArray = ls at hl ⊢
  have hl : lv_has ls 2 [(0, .ref nt), (1, .int (nI (i)))] := hl
  refine lv_iload_n hx hb dX6_told_0 rfl (lv_at hl 1 rfl) ?_
  rcases (show i = 0 ∨ i = 1 ∨ i = 2 ∨ i = 3 ∨ i = 4 by omega) with rfl | rfl | rfl | rfl | rfl
  · refine lv_tableIn (off := 31) (tgt := 32) hx hb dX6_told_1 (by decide) (by decide) (by decide) (by decide) ?_
    refine lv_aload_n hx hb dX6_told_32 rfl (lv_at hl 0 rfl) ?_
    refine va_get (D := D) (ci := 6) (v := .int kd) (C := RX6) (T := TX6) (N := 5) hx hb hts in_X6 hown hK hP 0 rfl rfl 0 (by decide) (hts _ q651) (fun _ h9 => h9) rfl dX6_told_33 ?_
    exact z_iret (v := kd) hx hb hr hS (rfl) (by omega) (by omega) dX6_told_36
  · refine lv_tableIn (off := 36) (tgt := 37) hx hb dX6_told_1 (by decide) (by decide) (by decide) (by decide) ?_
    refine lv_aload_n hx hb dX6_told_37 rfl (lv_at hl 0 rfl) ?_
    refine va_get (D := D) (ci := 6) (v := .int tx) (C := RX6) (T := TX6) (N := 5) hx hb hts in_X6 hown hK hP 0 rfl rfl 1 (by decide) (hts _ q653) (fun _ h9 => h9) rfl dX6_told_38 ?_
    exact z_iret (v := tx) hx hb hr hS (rfl) (by omega) (by omega) dX6_told_41
  · refine lv_tableIn (off := 41) (tgt := 42) hx hb dX6_told_1 (by decide) (by decide) (by decide) (by decide) ?_
    refine lv_aload_n hx hb dX6_told_42 rfl (lv_at hl 0 rfl) ?_
    refine va_get (D := D) (ci := 6) (v := .int ky) (C := RX6) (T := TX6) (N := 5) hx hb hts in_X6 hown hK hP 0 rfl rfl 2 (by decide) (hts _ q655) (fun _ h9 => h9) rfl dX6_told_43 ?_
    exact z_iret (v := ky) hx hb hr hS (rfl) (by omega) (by omega) dX6_told_46
  · refine lv_tableIn (off := 46) (tgt := 47) hx hb dX6_told_1 (by decide) (by decide) (by decide) (by decide) ?_
    refine lv_aload_n hx hb dX6_told_47 rfl (lv_at hl 0 rfl) ?_
    refine va_get (D := D) (ci := 6) (v := .int vl) (C := RX6) (T := TX6) (N := 5) hx hb hts in_X6 hown hK hP 0 rfl rfl 3 (by decide) (hts _ q657) (fun _ h9 => h9) rfl dX6_told_48 ?_
    exact z_iret (v := vl) hx hb hr hS (rfl) (by omega) (by omega) dX6_told_51
  · refine lv_tableOut (tgt := 52) hx hb dX6_told_1 (by decide) (by decide) ?_
    refine lv_aload_n hx hb dX6_told_52 rfl (lv_at hl 0 rfl) ?_
    refine va_get (D := D) (ci := 6) (v := .int tk) (C := RX6) (T := TX6) (N := 5) hx hb hts in_X6 hown hK hP 0 rfl rfl 4 (by decide) (hts _ q659) (fun _ h9 => h9) rfl dX6_told_53 ?_
    exact z_iret (v := tk) hx hb hr hS (rfl) (by omega) (by omega) dX6_told_56

set_option maxHeartbeats 4000000 in
set_option maxRecDepth 100000 in
theorem mX9_isAgo (l : Launch) (D : va_G) (dA : Nat → ClassId) (ad : Nat → Nat) (sz : Nat) (nt : Nat) (kd : Int32) (tx : Int32) (ky : Int32) (vl : Int32) (tk : Int32) (i : Int32) (j : Int32) : Met l yX9_isAgo (ws_ yX9_isAgo cX9_isAgo 3 (some .boolean)) ({ frames := 1, cells := 0, slots := 0, locals := 40 }) (va_Pc [.ref nt, .int i, .int j] (zP D dA ad (fun q => sz ≤ q) sz (fun H => va_P D vwCl [(nt, .inr (6, [.int kd, .int tx, .int ky, .int vl, .int tk]))] H))) (zQi (fun rz H => rz = bI (¬ i - tk < j)) (fun q => sz ≤ q)) (0) (0) (fun q => sz ≤ q) := by
  refine Met.ofW (cc := cX9_isAgo) (maxL := 3) (ret := (some .boolean)) (by decide) rfl ?_
  intro p e s m args below meth c s₁ B hml hv
  obtain ⟨rfl, hsz, hC, hP⟩ := hv
  have hx := B.exec
  have hb := B.bytes
  have hr := B.returns
  have hts := atoms_spec (ws := ws_ yX9_isAgo cX9_isAgo 3 (some .boolean)) B.pre
  have hts : ∀ w ∈ lw_all, w.before _ s = true := fun w h => hts w (List.mem_cons_of_mem _ h)
  have hown : s.vm.findClass RX9 = some m.cls := findClass_of_methodNamed B.named
  have hlocks := B.notSynchronized
  subst hsz
  have hK := hC.K
  have hA : ∀ q : Nat, s.heap.size ≤ q → s.heap.size ≤ q := fun _ h => h
  have hS : va_S (fun q => s.heap.size ≤ q) s.heap s.heap [] := va_S.rf
  have hP : va_P D vwCl [(nt, .inr (6, [.int kd, .int tx, .int ky, .int vl, .int tk]))] s.heap := hP
  have hl := lv_entry ([.ref nt, .int i, .int j]) (n := 3) (Nat.le_of_ble_eq_true rfl)
  rw [lg_entry_eq]
  generalize (lg_sl ([.ref nt, .int i, .int j]) ++ List.replicate (3 - (lg_sl ([.ref nt, .int i, .int j])).length) Slot.unset).toArray = ls at hl ⊢
  have hl : lv_has ls 3 [(0, .ref nt), (1, .int i), (2, .int j)] := hl
  refine lv_iload_n hx hb dX9_isAgo_0 rfl (lv_at hl 1 rfl) ?_
  refine lv_aload_n hx hb dX9_isAgo_1 rfl (lv_at hl 0 rfl) ?_
  refine z_cFi (hC.K.1 6 _ rfl).2 (As := []) (rest := [.int i]) ⟨hx, hb, hml, hown, hts⟩ (mX6_writtenIn l D dA ad s.heap.size nt kd tx ky vl tk) (va_cwF 0 hts (lw_F q821 q824 q826 q79 q828) rfl rfl rfl (Cx.nI hC (List.mem_of_getElem? (i := 6) rfl)) (by decide +kernel) ⟨Nat.le_of_ble_eq_true rfl, Nat.le_of_ble_eq_true rfl⟩) hC hS (fun _ h => hA _ (Nat.le_trans hS.1 h)) (hP.sub (ws' := [(nt, .inr (6, [.int kd, .int tx, .int ky, .int vl, .int tk]))]) [0] rfl) (va_recv hK hP (ci := 6) (q0 := 0) rfl rfl) rfl rfl hl.1 (Nat.le_of_ble_eq_true rfl) dX9_isAgo_2 ⟨Nat.le_of_ble_eq_true rfl, Nat.le_of_ble_eq_true rfl⟩ (fun r_1 H locs hQ hF hS => ?_)
  have hP := va_P.ro hF hP
  obtain rfl : tk = r_1 := hQ.symm
  refine lv_isub hx hb dX9_isAgo_7 ?_
  refine lv_iload_n hx hb dX9_isAgo_8 rfl (lv_at hl 2 rfl) ?_
  refine lv_icmp_lt (tgt := 16) hx hb dX9_isAgo_9 (by decide) (fun c_2 => ?_) (fun c_2 => ?_)
  · refine lv_iconst (v := nI (0)) hx hb dX9_isAgo_16 (by decide) ?_
    exact z_zret (v := nI (0)) hx hb hr (by first | rfl | decide) hS ((bI_f (fun q => q c_2)).symm) (by omega) (by omega) dX9_isAgo_17
  · refine lv_iconst (v := nI (1)) hx hb dX9_isAgo_12 (by decide) ?_
    refine lv_goto (tgt := 17) hx hb dX9_isAgo_13 (by decide) ?_
    exact z_zret (v := nI (1)) hx hb hr (by first | rfl | decide) hS ((bI_t c_2).symm) (by omega) (by omega) dX9_isAgo_17
