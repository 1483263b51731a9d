set_option maxHeartbeats 4000000 in
set_option maxRecDepth 100000 in
theorem mJ16_init_2 (l : Launch) (D : va_G) (dA : Nat → ClassId) (ad : Nat → Nat) (A : Nat → Prop) (sz : Nat) (xq : Nat) (mq : Nat) (hA : ∀ q, sz ≤ q → A q) (hstr : l.stackTraces = false) (hD : va_D A [(xq, .inr (5, [.null, .null, .null, .null, .null, .int 0, .int 0]))]) : Met l yJ16_init_2 (ws_ yJ16_init_2 cJ16_init_2 2 none) ({ frames := 3, cells := 0, slots := 0, locals := 75 }) (va_Pc [.ref xq, .ref mq] (zP D dA ad A sz (fun H => va_P D vwCl [(xq, .inr (5, [.null, .null, .null, .null, .null, .int 0, .int 0]))] H ∧ MonF xq H))) (zQv (fun H => ∃ ru : Option Nat, ∃ rs : Option Nat, True ∧ va_P D vwCl [(xq, .inr (5, [.ref xq, va_rf ru, va_rf rs, .ref mq, .null, .int 0, .int 0]))] H ∧ va_D A [(xq, .inr (5, [.ref xq, va_rf ru, va_rf rs, .ref mq, .null, .int 0, .int 0]))]) A) (0) (0) A := by
  refine Met.ofW (cc := cJ16_init_2) (maxL := 2) (ret := none) (by decide) rfl ?_
  intro p e s m args below meth c s₁ B hml hv
  obtain ⟨rfl, hsz, hC, hP⟩ := hv
  have hx := B.exec
  have hb := B.bytes
  have hr := B.returns
  have hts := atoms_spec (ws := ws_ yJ16_init_2 cJ16_init_2 2 none) B.pre
  have hts : ∀ w ∈ lw_all, w.before _ s = true := fun w h => hts w (List.mem_cons_of_mem _ h)
  have hown : s.vm.findClass RJ16 = some m.cls := findClass_of_methodNamed B.named
  have hlocks := B.notSynchronized
  have hin : meth.name = "<init>" := (name_of_methodNamed B.named B.method).1
  subst hsz
  have hK := hC.K
  have hS : va_S A s.heap s.heap [] := va_S.rf
  obtain ⟨hP, hP2⟩ := hP
  have hP : va_P D vwCl [(xq, .inr (5, [.null, .null, .null, .null, .null, .int 0, .int 0]))] s.heap := hP
  have hM0 := hP2
  obtain ⟨ru, hru⟩ := hC.zU.ex
  obtain ⟨rs, hrs⟩ := hC.zN.ex
  have hl := lv_entry ([.ref xq, .ref mq]) (n := 2) (Nat.le_of_ble_eq_true rfl)
  rw [lg_entry_eq]
  generalize (lg_sl ([.ref xq, .ref mq]) ++ List.replicate (2 - (lg_sl ([.ref xq, .ref mq])).length) Slot.unset).toArray = ls at hl ⊢
  have hl : lv_has ls 2 [(0, .ref xq), (1, .ref mq)] := hl
  refine lv_aload_n hx hb dJ16_init_2_0 rfl (lv_at hl 0 rfl) ?_
  refine W.objInit hx hb hown (hts _ q577) (hts _ q92) (hts _ q93) rfl (by rw [hml]; exact hl.1) rfl dJ16_init_2_1 (Nat.le_of_ble_eq_true rfl) (Nat.le_of_ble_eq_true rfl) ?_
  refine W.eq (g2 := F0 m 4 ls []) rfl ?_
  refine lv_aload_n hx hb dJ16_init_2_4 rfl (lv_at hl 0 rfl) ?_
  refine lv_aload_n hx hb dJ16_init_2_5 rfl (lv_at hl 0 rfl) ?_
  refine va_put (D := D) (ci := 5) (v := .ref xq) (ty := .object "java/lang/Throwable") (C := RX5) (T := TX5) (N := 7) hx hb hts in_X5 tyX5 tyX5_ok nmX5 hown hK hP hD hS 0 rfl rfl 0 (by decide) (hts _ q608) (fun _ h9 => h9) rfl (by decide +kernel) rfl rfl (Nat.le_of_ble_eq_true rfl) dJ16_init_2_6 (fun H locs hP hD hS => ?_)
  have hP : va_P D vwCl [(xq, .inr (5, [.ref xq, .null, .null, .null, .null, .int 0, .int 0]))] H := hP
  have hD : va_D A [(xq, .inr (5, [.ref xq, .null, .null, .null, .null, .int 0, .int 0]))] := hD
  refine lv_aload_n hx hb dJ16_init_2_9 rfl (lv_at hl 0 rfl) ?_
  refine va_gets (v := va_rf ru) hx hb hru hS hown (hts _ q578) (fun _ h9 => h9) dJ16_init_2_10 ?_
  refine va_put (D := D) (ci := 5) (v := va_rf ru) (ty := .array (.object "java/lang/StackTraceElement")) (C := RX5) (T := TX5) (N := 7) hx hb hts in_X5 tyX5 tyX5_ok nmX5 hown hK hP hD hS 0 rfl rfl 1 (by decide) (hts _ q609) (fun _ h9 => h9) rfl (by decide +kernel) (by cases ru <;> rfl) (by cases ru <;> rfl) (Nat.le_of_ble_eq_true rfl) dJ16_init_2_13 (fun H locs hP hD hS => ?_)
  have hP : va_P D vwCl [(xq, .inr (5, [.ref xq, va_rf ru, .null, .null, .null, .int 0, .int 0]))] H := hP
  have hD : va_D A [(xq, .inr (5, [.ref xq, va_rf ru, .null, .null, .null, .int 0, .int 0]))] := hD
  refine lv_aload_n hx hb dJ16_init_2_16 rfl (lv_at hl 0 rfl) ?_
  refine va_gets (v := va_rf rs) hx hb hrs hS hown (hts _ q580) (fun _ h9 => h9) dJ16_init_2_17 ?_
  refine va_put (D := D) (ci := 5) (v := va_rf rs) (ty := .object "java/util/List") (C := RX5) (T := TX5) (N := 7) hx hb hts in_X5 tyX5 tyX5_ok nmX5 hown hK hP hD hS 0 rfl rfl 2 (by decide) (hts _ q610) (fun _ h9 => h9) rfl (by decide +kernel) (by cases rs <;> rfl) (by cases rs <;> rfl) (Nat.le_of_ble_eq_true rfl) dJ16_init_2_20 (fun H locs hP hD hS => ?_)
  have hP : va_P D vwCl [(xq, .inr (5, [.ref xq, va_rf ru, va_rf rs, .null, .null, .int 0, .int 0]))] H := hP
  have hD : va_D A [(xq, .inr (5, [.ref xq, va_rf ru, va_rf rs, .null, .null, .int 0, .int 0]))] := hD
  refine lv_aload_n hx hb dJ16_init_2_23 rfl (lv_at hl 0 rfl) ?_
  refine z_mon hM0 (fun hM9 => ?_)
  refine z_fill (wz := [(xq, .inr (5, [.ref xq, va_rf ru, va_rf rs, .null, .null, .int 0, .int 0]))]) (q0 := 0) (ci := 5) (u := va_rf ru) hx hb (hml.trans hl.1.symm) hstr hown hts hC hP hS rfl rfl (by decide) rfl rfl in_X5 (hts _ q562) (hts _ q561) rfl rfl hru (by cases ru <;> rfl) hM9 (Nat.le_of_ble_eq_true rfl) (Nat.le_of_ble_eq_true rfl) dJ16_init_2_24 ?_
  refine lv_pop hx hb dJ16_init_2_27 rfl ?_
  refine lv_aload_n hx hb dJ16_init_2_28 rfl (lv_at hl 0 rfl) ?_
  refine lv_aload_n hx hb dJ16_init_2_29 rfl (lv_at hl 1 rfl) ?_
  refine va_put (D := D) (ci := 5) (v := .ref mq) (ty := .object "java/lang/String") (C := RX5) (T := TX5) (N := 7) hx hb hts in_X5 tyX5 tyX5_ok nmX5 hown hK hP hD hS 0 rfl rfl 3 (by decide) (hts _ q607) (fun _ h9 => h9) rfl (by decide +kernel) rfl rfl (Nat.le_of_ble_eq_true rfl) dJ16_init_2_30 (fun H locs hP hD hS => ?_)
  have hP : va_P D vwCl [(xq, .inr (5, [.ref xq, va_rf ru, va_rf rs, .ref mq, .null, .int 0, .int 0]))] H := hP
  have hD : va_D A [(xq, .inr (5, [.ref xq, va_rf ru, va_rf rs, .ref mq, .null, .int 0, .int 0]))] := hD
  exact z_vret hx hb hr hS (⟨ru, rs, trivial, hP, hD⟩) (by decide) (by decide) dJ16_init_2_33

set_option maxHeartbeats 4000000 in
set_option maxRecDepth 100000 in
theorem mJ17_init (l : Launch) (D : va_G) (dA : Nat → ClassId) (ad : Nat → Nat) (A : Nat → Prop) (sz : Nat) (xq : Nat) (mq : Nat) (hA : ∀ q, sz ≤ q → A q) (hstr : l.stackTraces = false) (hD : va_D A [(xq, .inr (5, [.null, .null, .null, .null, .null, .int 0, .int 0]))]) : Met l yJ17_init (ws_ yJ17_init cJ17_init 2 none) ({ frames := 4, cells := 0, slots := 0, locals := 105 }) (va_Pc [.ref xq, .ref mq] (zP D dA ad A sz (fun H => va_P D vwCl [(xq, .inr (5, [.null, .null, .null, .null, .null, .int 0, .int 0]))] H ∧ MonF xq H))) (zQv (fun H => ∃ ru : Option Nat, ∃ rs : Option Nat, True ∧ va_P D vwCl [(xq, .inr (5, [.ref xq, va_rf ru, va_rf rs, .ref mq, .null, .int 0, .int 0]))] H ∧ va_D A [(xq, .inr (5, [.ref xq, va_rf ru, va_rf rs, .ref mq, .null, .int 0, .int 0]))]) A) (0) (0) A := by
  refine Met.ofW (cc := cJ17_init) (maxL := 2) (ret := none) (by decide) rfl ?_
  intro p e s m args below meth c s₁ B hml hv
  obtain ⟨rfl, hsz, hC, hP⟩ := hv
  have hx := B.exec
  have hb := B.bytes
  have hr := B.returns
  have hts := atoms_spec (ws := ws_ yJ17_init cJ17_init 2 none) B.pre
  have hts : ∀ w ∈ lw_all, w.before _ s = true := fun w h => hts w (List.mem_cons_of_mem _ h)
  have hown : s.vm.findClass RJ17 = some m.cls := findClass_of_methodNamed B.named
  have hlocks := B.notSynchronized
  have hin : meth.name = "<init>" := (name_of_methodNamed B.named B.method).1
  subst hsz
  have hK := hC.K
  have hS : va_S A s.heap s.heap [] := va_S.rf
  obtain ⟨hP, hP2⟩ := hP
  have hP : va_P D vwCl [(xq, .inr (5, [.null, .null, .null, .null, .null, .int 0, .int 0]))] s.heap := hP
  have hl := lv_entry ([.ref xq, .ref mq]) (n := 2) (Nat.le_of_ble_eq_true rfl)
  rw [lg_entry_eq]
  generalize (lg_sl ([.ref xq, .ref mq]) ++ List.replicate (2 - (lg_sl ([.ref xq, .ref mq])).length) Slot.unset).toArray = ls at hl ⊢
  have hl : lv_has ls 2 [(0, .ref xq), (1, .ref mq)] := hl
  refine lv_aload_n hx hb dJ17_init_0 rfl (lv_at hl 0 rfl) ?_
  refine lv_aload_n hx hb dJ17_init_1 rfl (lv_at hl 1 rfl) ?_
  refine z_cIv (As := [.ref mq]) (rest := []) ⟨hx, hb, hml, hown, hts⟩ (mJ16_init_2 l D dA ad A s.heap.size xq mq (hA_up hA hS) (hstr) (hD.sub [0] (by decide) rfl)) (cwI 1 hts (lw_meth q602) rfl rfl rfl (hts _ q76) (hts _ q600) (hts _ q601) rfl (by decide +kernel) ⟨Nat.le_of_ble_eq_true rfl, Nat.le_of_ble_eq_true rfl⟩) hC hS (fun _ h => h) ⟨(hP.sub (ws' := [(xq, .inr (5, [.null, .null, .null, .null, .null, .int 0, .int 0]))]) [0] rfl), hP2⟩ rfl rfl hl.1 (Nat.le_of_ble_eq_true rfl) dJ17_init_2 ⟨Nat.le_of_ble_eq_true rfl, Nat.le_of_ble_eq_true rfl⟩ (fun H locs hQ hF hS => ?_)
  obtain ⟨ru_2, rs_3, hQ, hP1, hD1⟩ := hQ
  have hP := hP1
  have hD := hD1
  have hP : va_P D vwCl [(xq, .inr (5, [.ref xq, va_rf ru_2, va_rf rs_3, .ref mq, .null, .int 0, .int 0]))] H := hP
  have hD : va_D A [(xq, .inr (5, [.ref xq, va_rf ru_2, va_rf rs_3, .ref mq, .null, .int 0, .int 0]))] := hD
  exact z_vret hx hb hr hS (⟨ru_2, rs_3, trivial, hP, hD⟩) (by decide) (by decide) dJ17_init_5

set_option maxHeartbeats 4000000 in
set_option maxRecDepth 100000 in
theorem mX5_init (l : Launch) (D : va_G) (dA : Nat → ClassId) (ad : Nat → Nat) (A : Nat → Prop) (sz : Nat) (xq : Nat) (k : Int32) (hA : ∀ q, sz ≤ q → A q) (hstr : l.stackTraces = false) (hD : va_D A [(xq, .inr (5, [.null, .null, .null, .null, .null, .int 0, .int 0]))]) : Met l yX5_init (ws_ yX5_init cX5_init 2 none) ({ frames := 5, cells := 0, slots := 0, locals := 135 }) (va_Pc [.ref xq, .int k] (zP D dA ad A sz (fun H => va_P D vwCl [(xq, .inr (5, [.null, .null, .null, .null, .null, .int 0, .int 0]))] H ∧ MonF xq H))) (zQv (fun H => ∃ ru : Option Nat, ∃ rs : Option Nat, True ∧ va_P D vwCl [(xq, .inr (5, [.ref xq, va_rf ru, va_rf rs, .ref (ad (10 + 1)), .null, .int 0, .int k]))] H ∧ va_D A [(xq, .inr (5, [.ref xq, va_rf ru, va_rf rs, .ref (ad (10 + 1)), .null, .int 0, .int k]))]) A) (0) (0) A := by
  refine Met.ofW (cc := cX5_init) (maxL := 2) (ret := none) (by decide) rfl ?_
  intro p e s m args below meth c s₁ B hml hv
  obtain ⟨rfl, hsz, hC, hP⟩ := hv
  have hx := B.exec
  have hb := B.bytes
  have hr := B.returns
  have hts := atoms_spec (ws := ws_ yX5_init cX5_init 2 none) B.pre
  have hts : ∀ w ∈ lw_all, w.before _ s = true := fun w h => hts w (List.mem_cons_of_mem _ h)
  have hown : s.vm.findClass RX5 = some m.cls := findClass_of_methodNamed B.named
  have hlocks := B.notSynchronized
  have hin : meth.name = "<init>" := (name_of_methodNamed B.named B.method).1
  subst hsz
  have hK := hC.K
  have hS : va_S A s.heap s.heap [] := va_S.rf
  obtain ⟨hP, hP2⟩ := hP
  have hP : va_P D vwCl [(xq, .inr (5, [.null, .null, .null, .null, .null, .int 0, .int 0]))] s.heap := hP
  have hl := lv_entry ([.ref xq, .int k]) (n := 2) (Nat.le_of_ble_eq_true rfl)
  rw [lg_entry_eq]
  generalize (lg_sl ([.ref xq, .int k]) ++ List.replicate (2 - (lg_sl ([.ref xq, .int k])).length) Slot.unset).toArray = ls at hl ⊢
  have hl : lv_has ls 2 [(0, .ref xq), (1, .int k)] := hl
  refine lv_aload_n hx hb dX5_init_0 rfl (lv_at hl 0 rfl) ?_
  refine va_ldcS hx hb hown (Cx.nS hC (List.mem_of_getElem? (i := 1) rfl)) dX5_init_1 ?_
  refine z_cIv (As := [.ref (ad (10 + 1))]) (rest := []) ⟨hx, hb, hml, hown, hts⟩ (mJ17_init l D dA ad A s.heap.size xq (ad (10 + 1)) (hA_up hA hS) (hstr) (hD.sub [0] (by decide) rfl)) (cwI 1 hts (lw_meth q599) rfl rfl rfl (hts _ q77) (hts _ q597) (hts _ q598) rfl (by decide +kernel) ⟨Nat.le_of_ble_eq_true rfl, Nat.le_of_ble_eq_true rfl⟩) hC hS (fun _ h => h) ⟨(hP.sub (ws' := [(xq, .inr (5, [.null, .null, .null, .null, .null, .int 0, .int 0]))]) [0] rfl), hP2⟩ rfl rfl hl.1 (Nat.le_of_ble_eq_true rfl) dX5_init_3 ⟨Nat.le_of_ble_eq_true rfl, Nat.le_of_ble_eq_true rfl⟩ (fun H locs hQ hF hS => ?_)
  obtain ⟨ru_2, rs_3, hQ, hP1, hD1⟩ := hQ
  have hP := hP1
  have hD := hD1
  have hP : va_P D vwCl [(xq, .inr (5, [.ref xq, va_rf ru_2, va_rf rs_3, .ref (ad (10 + 1)), .null, .int 0, .int 0]))] H := hP
  have hD : va_D A [(xq, .inr (5, [.ref xq, va_rf ru_2, va_rf rs_3, .ref (ad (10 + 1)), .null, .int 0, .int 0]))] := hD
  refine lv_aload_n hx hb dX5_init_6 rfl (lv_at hl 0 rfl) ?_
  refine lv_iload_n hx hb dX5_init_7 rfl (lv_at hl 1 rfl) ?_
  refine va_putF (D := D) (ci := 5) (v := .int k) (ty := .int) (C := RX5) (T := TX5) (N := 7) hx hb hts in_X5 tyX5 tyX5_ok nmX5 hown hK hP hD hS 0 rfl rfl 6 (by decide) (hts _ q603) (fun _ h9 => h9) rfl hin (by rfl) (by decide +kernel) rfl rfl (Nat.le_of_ble_eq_true rfl) dX5_init_8 (fun H locs hP hD hS => ?_)
  have hP : va_P D vwCl [(xq, .inr (5, [.ref xq, va_rf ru_2, va_rf rs_3, .ref (ad (10 + 1)), .null, .int 0, .int k]))] H := hP
  have hD : va_D A [(xq, .inr (5, [.ref xq, va_rf ru_2, va_rf rs_3, .ref (ad (10 + 1)), .null, .int 0, .int k]))] := hD
  exact z_vret hx hb hr hS (⟨ru_2, rs_3, trivial, hP, hD⟩) (by decide) (by decide) dX5_init_11

set_option maxHeartbeats 4000000 in
set_option maxRecDepth 100000 in
theorem mJ16_init_3 (l : Launch) (D : va_G) (dA : Nat → ClassId) (ad : Nat → Nat) (A : Nat → Prop) (sz : Nat) (xq : Nat) (mq : Nat) (rc : Option Nat) (hA : ∀ q, sz ≤ q → A q) (hstr : l.stackTraces = false) (hD : va_D A [(xq, .inr (8, [.null, .null, .null, .null, .null, .int 0, .int 0, .int 0]))]) : Met l yJ16_init_3 (ws_ yJ16_init_3 cJ16_init_3 3 none) ({ frames := 3, cells := 0, slots := 0, locals := 75 }) (va_Pc [.ref xq, .ref mq, va_rf rc] (zP D dA ad A sz (fun H => va_P D vwCl [(xq, .inr (8, [.null, .null, .null, .null, .null, .int 0, .int 0, .int 0]))] H ∧ MonF xq H))) (zQv (fun H => ∃ ru : Option Nat, ∃ rs : Option Nat, MonF xq H ∧ va_P D vwCl [(xq, .inr (8, [va_rf rc, va_rf ru, va_rf rs, .ref mq, .null, .int 0, .int 0, .int 0]))] H ∧ va_D A [(xq, .inr (8, [va_rf rc, va_rf ru, va_rf rs, .ref mq, .null, .int 0, .int 0, .int 0]))]) A) (0) (0) A := by
  refine Met.ofW (cc := cJ16_init_3) (maxL := 3) (ret := none) (by decide) rfl ?_
  intro p e s m args below meth c s₁ B hml hv
  obtain ⟨rfl, hsz, hC, hP⟩ := hv
  have hx := B.exec
  have hb := B.bytes
  have hr := B.returns
  have hts := atoms_spec (ws := ws_ yJ16_init_3 cJ16_init_3 3 none) B.pre
  have hts : ∀ w ∈ lw_all, w.before _ s = true := fun w h => hts w (List.mem_cons_of_mem _ h)
  have hown : s.vm.findClass RJ16 = some m.cls := findClass_of_methodNamed B.named
  have hlocks := B.notSynchronized
  have hin : meth.name = "<init>" := (name_of_methodNamed B.named B.method).1
  subst hsz
  have hK := hC.K
  have hS : va_S A s.heap s.heap [] := va_S.rf
  obtain ⟨hP, hP2⟩ := hP
  have hP : va_P D vwCl [(xq, .inr (8, [.null, .null, .null, .null, .null, .int 0, .int 0, .int 0]))] s.heap := hP
  have hM0 := hP2
  obtain ⟨ru, hru⟩ := hC.zU.ex
  obtain ⟨rs, hrs⟩ := hC.zN.ex
  have hl := lv_entry ([.ref xq, .ref mq, va_rf rc]) (n := 3) (by cases rc <;> exact Nat.le_of_ble_eq_true rfl)
  rw [lg_entry_eq]
  generalize (lg_sl ([.ref xq, .ref mq, va_rf rc]) ++ List.replicate (3 - (lg_sl ([.ref xq, .ref mq, va_rf rc])).length) Slot.unset).toArray = ls at hl ⊢
  have hl : lv_has ls 3 [(0, .ref xq), (1, .ref mq), (2, va_rf rc)] := hl
  refine lv_aload_n hx hb dJ16_init_3_0 rfl (lv_at hl 0 rfl) ?_
  refine W.objInit hx hb hown (hts _ q577) (hts _ q92) (hts _ q93) rfl (by rw [hml]; exact hl.1) rfl dJ16_init_3_1 (Nat.le_of_ble_eq_true rfl) (Nat.le_of_ble_eq_true rfl) ?_
  refine W.eq (g2 := F0 m 4 ls []) rfl ?_
  refine lv_aload_n hx hb dJ16_init_3_4 rfl (lv_at hl 0 rfl) ?_
  refine lv_aload_n hx hb dJ16_init_3_5 rfl (lv_at hl 0 rfl) ?_
  refine va_put (D := D) (ci := 8) (v := .ref xq) (ty := .object "java/lang/Throwable") (C := RX8) (T := TX8) (N := 8) hx hb hts in_X8 tyX8 tyX8_ok nmX8 hown hK hP hD hS 0 rfl rfl 0 (by decide) (hts _ q608) (fun _ h9 => h9) rfl (by decide +kernel) rfl rfl (Nat.le_of_ble_eq_true rfl) dJ16_init_3_6 (fun H locs hP hD hS => ?_)
  have hP : va_P D vwCl [(xq, .inr (8, [.ref xq, .null, .null, .null, .null, .int 0, .int 0, .int 0]))] H := hP
  have hD : va_D A [(xq, .inr (8, [.ref xq, .null, .null, .null, .null, .int 0, .int 0, .int 0]))] := hD
  refine lv_aload_n hx hb dJ16_init_3_9 rfl (lv_at hl 0 rfl) ?_
  refine va_gets (v := va_rf ru) hx hb hru hS hown (hts _ q578) (fun _ h9 => h9) dJ16_init_3_10 ?_
  refine va_put (D := D) (ci := 8) (v := va_rf ru) (ty := .array (.object "java/lang/StackTraceElement")) (C := RX8) (T := TX8) (N := 8) hx hb hts in_X8 tyX8 tyX8_ok nmX8 hown hK hP hD hS 0 rfl rfl 1 (by decide) (hts _ q609) (fun _ h9 => h9) rfl (by decide +kernel) (by cases ru <;> rfl) (by cases ru <;> rfl) (Nat.le_of_ble_eq_true rfl) dJ16_init_3_13 (fun H locs hP hD hS => ?_)
  have hP : va_P D vwCl [(xq, .inr (8, [.ref xq, va_rf ru, .null, .null, .null, .int 0, .int 0, .int 0]))] H := hP
  have hD : va_D A [(xq, .inr (8, [.ref xq, va_rf ru, .null, .null, .null, .int 0, .int 0, .int 0]))] := hD
  refine lv_aload_n hx hb dJ16_init_3_16 rfl (lv_at hl 0 rfl) ?_
  refine va_gets (v := va_rf rs) hx hb hrs hS hown (hts _ q580) (fun _ h9 => h9) dJ16_init_3_17 ?_
  refine va_put (D := D) (ci := 8) (v := va_rf rs) (ty := .object "java/util/List") (C := RX8) (T := TX8) (N := 8) hx hb hts in_X8 tyX8 tyX8_ok nmX8 hown hK hP hD hS 0 rfl rfl 2 (by decide) (hts _ q610) (fun _ h9 => h9) rfl (by decide +kernel) (by cases rs <;> rfl) (by cases rs <;> rfl) (Nat.le_of_ble_eq_true rfl) dJ16_init_3_20 (fun H locs hP hD hS => ?_)
  have hP : va_P D vwCl [(xq, .inr (8, [.ref xq, va_rf ru, va_rf rs, .null, .null, .int 0, .int 0, .int 0]))] H := hP
  have hD : va_D A [(xq, .inr (8, [.ref xq, va_rf ru, va_rf rs, .null, .null, .int 0, .int 0, .int 0]))] := hD
  refine lv_aload_n hx hb dJ16_init_3_23 rfl (lv_at hl 0 rfl) ?_
  refine z_mon hM0 (fun hM9 => ?_)
  refine z_fill (wz := [(xq, .inr (8, [.ref xq, va_rf ru, va_rf rs, .null, .null, .int 0, .int 0, .int 0]))]) (q0 := 0) (ci := 8) (u := va_rf ru) hx hb (hml.trans hl.1.symm) hstr hown hts hC hP hS rfl rfl (by decide) rfl rfl in_X8 (hts _ q585) (hts _ q1256) rfl rfl hru (by cases ru <;> rfl) hM9 (Nat.le_of_ble_eq_true rfl) (Nat.le_of_ble_eq_true rfl) dJ16_init_3_24 ?_
  refine lv_pop hx hb dJ16_init_3_27 rfl ?_
  refine lv_aload_n hx hb dJ16_init_3_28 rfl (lv_at hl 0 rfl) ?_
  refine lv_aload_n hx hb dJ16_init_3_29 rfl (lv_at hl 1 rfl) ?_
  refine va_put (D := D) (ci := 8) (v := .ref mq) (ty := .object "java/lang/String") (C := RX8) (T := TX8) (N := 8) hx hb hts in_X8 tyX8 tyX8_ok nmX8 hown hK hP hD hS 0 rfl rfl 3 (by decide) (hts _ q607) (fun _ h9 => h9) rfl (by decide +kernel) rfl rfl (Nat.le_of_ble_eq_true rfl) dJ16_init_3_30 (fun H locs hP hD hS => ?_)
  have hP : va_P D vwCl [(xq, .inr (8, [.ref xq, va_rf ru, va_rf rs, .ref mq, .null, .int 0, .int 0, .int 0]))] H := hP
  have hD : va_D A [(xq, .inr (8, [.ref xq, va_rf ru, va_rf rs, .ref mq, .null, .int 0, .int 0, .int 0]))] := hD
  refine lv_aload_n hx hb dJ16_init_3_33 rfl (lv_at hl 0 rfl) ?_
  refine z_aload_nq hx hb dJ16_init_3_34 rfl (lv_at hl 2 rfl) ?_
  refine va_put (D := D) (ci := 8) (v := va_rf rc) (ty := .object "java/lang/Throwable") (C := RX8) (T := TX8) (N := 8) hx hb hts in_X8 tyX8 tyX8_ok nmX8 hown hK hP hD hS 0 rfl rfl 0 (by decide) (hts _ q608) (fun _ h9 => h9) rfl (by decide +kernel) (by cases rc <;> rfl) (by cases rc <;> rfl) (Nat.le_of_ble_eq_true rfl) dJ16_init_3_35 (fun H locs hP hD hS => ?_)
  have hP : va_P D vwCl [(xq, .inr (8, [va_rf rc, va_rf ru, va_rf rs, .ref mq, .null, .int 0, .int 0, .int 0]))] H := hP
  have hD : va_D A [(xq, .inr (8, [va_rf rc, va_rf ru, va_rf rs, .ref mq, .null, .int 0, .int 0, .int 0]))] := hD
  refine z_mon hM0 (fun hM8 => ?_)
  exact z_vret hx hb hr hS (⟨ru, rs, hM8, hP, hD⟩) (by decide) (by decide) dJ16_init_3_38

set_option maxHeartbeats 4000000 in
set_option maxRecDepth 100000 in
theorem mJ17_init_2 (l : Launch) (D : va_G) (dA : Nat → ClassId) (ad : Nat → Nat) (A : Nat → Prop) (sz : Nat) (xq : Nat) (mq : Nat) (rc : Option Nat) (hA : ∀ q, sz ≤ q → A q) (hstr : l.stackTraces = false) (hD : va_D A [(xq, .inr (8, [.null, .null, .null, .null, .null, .int 0, .int 0, .int 0]))]) : Met l yJ17_init_2 (ws_ yJ17_init_2 cJ17_init_2 3 none) ({ frames := 4, cells := 0, slots := 0, locals := 105 }) (va_Pc [.ref xq, .ref mq, va_rf rc] (zP D dA ad A sz (fun H => va_P D vwCl [(xq, .inr (8, [.null, .null, .null, .null, .null, .int 0, .int 0, .int 0]))] H ∧ MonF xq H))) (zQv (fun H => ∃ ru : Option Nat, ∃ rs : Option Nat, MonF xq H ∧ va_P D vwCl [(xq, .inr (8, [va_rf rc, va_rf ru, va_rf rs, .ref mq, .null, .int 0, .int 0, .int 0]))] H ∧ va_D A [(xq, .inr (8, [va_rf rc, va_rf ru, va_rf rs, .ref mq, .null, .int 0, .int 0, .int 0]))]) A) (0) (0) A := by
  refine Met.ofW (cc := cJ17_init_2) (maxL := 3) (ret := none) (by decide) rfl ?_
  intro p e s m args below meth c s₁ B hml hv
  obtain ⟨rfl, hsz, hC, hP⟩ := hv
  have hx := B.exec
  have hb := B.bytes
  have hr := B.returns
  have hts := atoms_spec (ws := ws_ yJ17_init_2 cJ17_init_2 3 none) B.pre
  have hts : ∀ w ∈ lw_all, w.before _ s = true := fun w h => hts w (List.mem_cons_of_mem _ h)
  have hown : s.vm.findClass RJ17 = some m.cls := findClass_of_methodNamed B.named
  have hlocks := B.notSynchronized
  have hin : meth.name = "<init>" := (name_of_methodNamed B.named B.method).1
  subst hsz
  have hK := hC.K
  have hS : va_S A s.heap s.heap [] := va_S.rf
  obtain ⟨hP, hP2⟩ := hP
  have hP : va_P D vwCl [(xq, .inr (8, [.null, .null, .null, .null, .null, .int 0, .int 0, .int 0]))] s.heap := hP
  have hl := lv_entry ([.ref xq, .ref mq, va_rf rc]) (n := 3) (by cases rc <;> exact Nat.le_of_ble_eq_true rfl)
  rw [lg_entry_eq]
  generalize (lg_sl ([.ref xq, .ref mq, va_rf rc]) ++ List.replicate (3 - (lg_sl ([.ref xq, .ref mq, va_rf rc])).length) Slot.unset).toArray = ls at hl ⊢
  have hl : lv_has ls 3 [(0, .ref xq), (1, .ref mq), (2, va_rf rc)] := hl
  refine lv_aload_n hx hb dJ17_init_2_0 rfl (lv_at hl 0 rfl) ?_
  refine lv_aload_n hx hb dJ17_init_2_1 rfl (lv_at hl 1 rfl) ?_
  refine z_aload_nq hx hb dJ17_init_2_2 rfl (lv_at hl 2 rfl) ?_
  refine z_cIv (As := [.ref mq, va_rf rc]) (rest := []) ⟨hx, hb, hml, hown, hts⟩ (mJ16_init_3 l D dA ad A s.heap.size xq mq rc (hA_up hA hS) (hstr) (hD.sub [0] (by decide) rfl)) (cwI 2 hts (lw_meth q1271) rfl rfl rfl (hts _ q76) (hts _ q1269) (hts _ q1270) rfl (by decide +kernel) ⟨Nat.le_of_ble_eq_true rfl, Nat.le_of_ble_eq_true rfl⟩) hC hS (fun _ h => h) ⟨(hP.sub (ws' := [(xq, .inr (8, [.null, .null, .null, .null, .null, .int 0, .int 0, .int 0]))]) [0] rfl), hP2⟩ rfl rfl hl.1 (Nat.le_of_ble_eq_true rfl) dJ17_init_2_3 ⟨Nat.le_of_ble_eq_true rfl, Nat.le_of_ble_eq_true rfl⟩ (fun H locs hQ hF hS => ?_)
  obtain ⟨ru_2, rs_3, hQ, hP1, hD1⟩ := hQ
  have hP := hP1
  have hD := hD1
  have hP : va_P D vwCl [(xq, .inr (8, [va_rf rc, va_rf ru_2, va_rf rs_3, .ref mq, .null, .int 0, .int 0, .int 0]))] H := hP
  have hD : va_D A [(xq, .inr (8, [va_rf rc, va_rf ru_2, va_rf rs_3, .ref mq, .null, .int 0, .int 0, .int 0]))] := hD
  exact z_vret hx hb hr hS (⟨ru_2, rs_3, hQ, hP, hD⟩) (by decide) (by decide) dJ17_init_2_6

set_option maxHeartbeats 4000000 in
set_option maxRecDepth 100000 in
theorem mX8_init (l : Launch) (D : va_G) (dA : Nat → ClassId) (ad : Nat → Nat) (A : Nat → Prop) (sz : Nat) (xq : Nat) (b : Int32) (k : Int32) (rc : Option Nat) (hA : ∀ q, sz ≤ q → A q) (hstr : l.stackTraces = false) (hD : va_D A [(xq, .inr (8, [.null, .null, .null, .null, .null, .int 0, .int 0, .int 0]))]) : Met l yX8_init (ws_ yX8_init cX8_init 4 none) ({ frames := 5, cells := 0, slots := 0, locals := 135 }) (va_Pc [.ref xq, .int b, .int k, va_rf rc] (zP D dA ad A sz (fun H => va_P D vwCl [(xq, .inr (8, [.null, .null, .null, .null, .null, .int 0, .int 0, .int 0]))] H ∧ MonF xq H))) (zQv (fun H => ∃ ru : Option Nat, ∃ rs : Option Nat, MonF xq H ∧ va_P D vwCl [(xq, .inr (8, [va_rf rc, va_rf ru, va_rf rs, .ref (ad (10 + 6)), .null, .int 0, .int b, .int k]))] H ∧ va_D A [(xq, .inr (8, [va_rf rc, va_rf ru, va_rf rs, .ref (ad (10 + 6)), .null, .int 0, .int b, .int k]))]) A) (0) (0) A := by
  refine Met.ofW (cc := cX8_init) (maxL := 4) (ret := none) (by decide) rfl ?_
  intro p e s m args below meth c s₁ B hml hv
  obtain ⟨rfl, hsz, hC, hP⟩ := hv
  have hx := B.exec
  have hb := B.bytes
  have hr := B.returns
  have hts := atoms_spec (ws := ws_ yX8_init cX8_init 4 none) B.pre
  have hts : ∀ w ∈ lw_all, w.before _ s = true := fun w h => hts w (List.mem_cons_of_mem _ h)
  have hown : s.vm.findClass RX8 = some m.cls := findClass_of_methodNamed B.named
  have hlocks := B.notSynchronized
  have hin : meth.name = "<init>" := (name_of_methodNamed B.named B.method).1
  subst hsz
  have hK := hC.K
  have hS : va_S A s.heap s.heap [] := va_S.rf
  obtain ⟨hP, hP2⟩ := hP
  have hP : va_P D vwCl [(xq, .inr (8, [.null, .null, .null, .null, .null, .int 0, .int 0, .int 0]))] s.heap := hP
  have hM0 := hP2
  have hl := lv_entry ([.ref xq, .int b, .int k, va_rf rc]) (n := 4) (by cases rc <;> exact Nat.le_of_ble_eq_true rfl)
  rw [lg_entry_eq]
  generalize (lg_sl ([.ref xq, .int b, .int k, va_rf rc]) ++ List.replicate (4 - (lg_sl ([.ref xq, .int b, .int k, va_rf rc])).length) Slot.unset).toArray = ls at hl ⊢
  have hl : lv_has ls 4 [(0, .ref xq), (1, .int b), (2, .int k), (3, va_rf rc)] := hl
  refine lv_aload_n hx hb dX8_init_0 rfl (lv_at hl 0 rfl) ?_
  refine va_ldcS hx hb hown (Cx.nS hC (List.mem_of_getElem? (i := 6) rfl)) dX8_init_1 ?_
  refine z_aload_nq hx hb dX8_init_3 rfl (lv_at hl 3 rfl) ?_
  refine z_cIv (As := [.ref (ad (10 + 6)), va_rf rc]) (rest := []) ⟨hx, hb, hml, hown, hts⟩ (mJ17_init_2 l D dA ad A s.heap.size xq (ad (10 + 6)) rc (hA_up hA hS) (hstr) (hD.sub [0] (by decide) rfl)) (cwI 2 hts (lw_meth q1268) rfl rfl rfl (hts _ q77) (hts _ q1266) (hts _ q1267) rfl (by decide +kernel) ⟨Nat.le_of_ble_eq_true rfl, Nat.le_of_ble_eq_true rfl⟩) hC hS (fun _ h => h) ⟨(hP.sub (ws' := [(xq, .inr (8, [.null, .null, .null, .null, .null, .int 0, .int 0, .int 0]))]) [0] rfl), hP2⟩ rfl rfl hl.1 (Nat.le_of_ble_eq_true rfl) dX8_init_4 ⟨Nat.le_of_ble_eq_true rfl, Nat.le_of_ble_eq_true rfl⟩ (fun H locs hQ hF hS => ?_)
  obtain ⟨ru_2, rs_3, hQ, hP1, hD1⟩ := hQ
  have hP := hP1
  have hD := hD1
  have hP : va_P D vwCl [(xq, .inr (8, [va_rf rc, va_rf ru_2, va_rf rs_3, .ref (ad (10 + 6)), .null, .int 0, .int 0, .int 0]))] H := hP
  have hD : va_D A [(xq, .inr (8, [va_rf rc, va_rf ru_2, va_rf rs_3, .ref (ad (10 + 6)), .null, .int 0, .int 0, .int 0]))] := hD
  refine lv_aload_n hx hb dX8_init_7 rfl (lv_at hl 0 rfl) ?_
  refine lv_iload_n hx hb dX8_init_8 rfl (lv_at hl 1 rfl) ?_
  refine va_putF (D := D) (ci := 8) (v := .int b) (ty := .int) (C := RX8) (T := TX8) (N := 8) hx hb hts in_X8 tyX8 tyX8_ok nmX8 hown hK hP hD hS 0 rfl rfl 6 (by decide) (hts _ q1272) (fun _ h9 => h9) rfl hin (by rfl) (by decide +kernel) rfl rfl (Nat.le_of_ble_eq_true rfl) dX8_init_9 (fun H locs hP hD hS => ?_)
  have hP : va_P D vwCl [(xq, .inr (8, [va_rf rc, va_rf ru_2, va_rf rs_3, .ref (ad (10 + 6)), .null, .int 0, .int b, .int 0]))] H := hP
  have hD : va_D A [(xq, .inr (8, [va_rf rc, va_rf ru_2, va_rf rs_3, .ref (ad (10 + 6)), .null, .int 0, .int b, .int 0]))] := hD
  refine lv_aload_n hx hb dX8_init_12 rfl (lv_at hl 0 rfl) ?_
  refine lv_iload_n hx hb dX8_init_13 rfl (lv_at hl 2 rfl) ?_
  refine va_putF (D := D) (ci := 8) (v := .int k) (ty := .int) (C := RX8) (T := TX8) (N := 8) hx hb hts in_X8 tyX8 tyX8_ok nmX8 hown hK hP hD hS 0 rfl rfl 7 (by decide) (hts _ q1274) (fun _ h9 => h9) rfl hin (by rfl) (by decide +kernel) rfl rfl (Nat.le_of_ble_eq_true rfl) dX8_init_14 (fun H locs hP hD hS => ?_)
  have hP : va_P D vwCl [(xq, .inr (8, [va_rf rc, va_rf ru_2, va_rf rs_3, .ref (ad (10 + 6)), .null, .int 0, .int b, .int k]))] H := hP
  have hD : va_D A [(xq, .inr (8, [va_rf rc, va_rf ru_2, va_rf rs_3, .ref (ad (10 + 6)), .null, .int 0, .int b, .int k]))] := hD
  refine z_mon hM0 (fun hM8 => ?_)
  exact z_vret hx hb hr hS (⟨ru_2, rs_3, hM8, hP, hD⟩) (by decide) (by decide) dX8_init_17
