set_option maxHeartbeats 4000000 in
set_option maxRecDepth 100000 in
theorem mJ9_init (l : Launch) (D : va_G) (dA : Nat → ClassId) (ad : Nat → Nat) (A : Nat → Prop) (sz : Nat) (it : Nat) (al : Nat) (mc : Int32) (ae : Nat) (n : Nat) (hA : ∀ q, sz ≤ q → A q) (hD : va_D A [(it, .inr (13, [.int 0, .int 0, .int 0, .null]))]) : Met l yJ9_init (ws_ yJ9_init cJ9_init 2 none) ({ frames := 1, cells := 0, slots := 0, locals := 15 }) (va_Pc [.ref it, .ref al] (zP D dA ad A sz (fun H => va_P D vwCl [(it, .inr (13, [.int 0, .int 0, .int 0, .null]))] H ∧ zFz D A [(al, .inr (9, [.int mc, .ref ae, .int (nI (n))]))] H))) (zQv (fun H => True ∧ va_P D vwCl [(it, .inr (13, [.int (nI (0)), .int (-1), .int mc, .ref al]))] H) A) (0) (0) A := by
  refine Met.ofW (cc := cJ9_init) (maxL := 2) (ret := none) (by decide) rfl ?_
  intro p e s m args below meth c s₁ B hml hv
  obtain ⟨rfl, hsz, hC, hP⟩ := hv
  have hx := B.exec
  have hb := B.bytes
  have hr := B.returns
  have hts := atoms_spec (ws := ws_ yJ9_init cJ9_init 2 none) B.pre
  have hts : ∀ w ∈ lw_all, w.before _ s = true := fun w h => hts w (List.mem_cons_of_mem _ h)
  have hown : s.vm.findClass RJ9 = some m.cls := findClass_of_methodNamed B.named
  have hlocks := B.notSynchronized
  have hin : meth.name = "<init>" := (name_of_methodNamed B.named B.method).1
  subst hsz
  have hK := hC.K
  have hS : va_S A s.heap s.heap [] := va_S.rf
  obtain ⟨hP, hZ⟩ := hP
  have hP : va_P D vwCl [(it, .inr (13, [.int 0, .int 0, .int 0, .null]))] s.heap := hP
  have hl := lv_entry ([.ref it, .ref al]) (n := 2) (Nat.le_of_ble_eq_true rfl)
  rw [lg_entry_eq]
  generalize (lg_sl ([.ref it, .ref al]) ++ List.replicate (2 - (lg_sl ([.ref it, .ref al])).length) Slot.unset).toArray = ls at hl ⊢
  have hl : lv_has ls 2 [(0, .ref it), (1, .ref al)] := hl
  refine lv_aload_n hx hb dJ9_init_0 rfl (lv_at hl 0 rfl) ?_
  refine lv_aload_n hx hb dJ9_init_1 rfl (lv_at hl 1 rfl) ?_
  refine va_putF (D := D) (ci := 13) (v := .ref al) (ty := .object "java/util/ArrayList") (C := RJ9) (T := TJ9) (N := 4) hx hb hts in_J9 tyJ9 tyJ9_ok nmJ9 hown hK hP hD hS 0 rfl rfl 3 (by decide) (hts _ q323) (fun _ h9 => h9) rfl hin (by rfl) (by decide +kernel) rfl rfl (Nat.le_of_ble_eq_true rfl) dJ9_init_2 (fun H locs hP hD hS => ?_)
  have hP : va_P D vwCl [(it, .inr (13, [.int 0, .int 0, .int 0, .ref al]))] H := hP
  have hD : va_D A [(it, .inr (13, [.int 0, .int 0, .int 0, .ref al]))] := hD
  refine lv_aload_n hx hb dJ9_init_5 rfl (lv_at hl 0 rfl) ?_
  refine W.objInit hx hb hown (hts _ q319) (hts _ q92) (hts _ q93) rfl (by rw [hml]; exact hl.1) rfl dJ9_init_6 (Nat.le_of_ble_eq_true rfl) (Nat.le_of_ble_eq_true rfl) ?_
  refine W.eq (g2 := F0 m 9 ls []) rfl ?_
  refine lv_aload_n hx hb dJ9_init_9 rfl (lv_at hl 0 rfl) ?_
  refine lv_iconst (v := (-1)) hx hb dJ9_init_10 (by decide) ?_
  refine va_put (D := D) (ci := 13) (v := .int (-1)) (ty := .int) (C := RJ9) (T := TJ9) (N := 4) hx hb hts in_J9 tyJ9 tyJ9_ok nmJ9 hown hK hP hD hS 0 rfl rfl 1 (by decide) (hts _ q321) (fun _ h9 => h9) rfl (by decide +kernel) rfl rfl (Nat.le_of_ble_eq_true rfl) dJ9_init_11 (fun H locs hP hD hS => ?_)
  have hP : va_P D vwCl [(it, .inr (13, [.int 0, .int (-1), .int 0, .ref al]))] H := hP
  have hD : va_D A [(it, .inr (13, [.int 0, .int (-1), .int 0, .ref al]))] := hD
  refine lv_aload_n hx hb dJ9_init_14 rfl (lv_at hl 0 rfl) ?_
  refine lv_aload_n hx hb dJ9_init_15 rfl (lv_at hl 0 rfl) ?_
  refine va_get (D := D) (ci := 13) (v := .ref al) (C := RJ9) (T := TJ9) (N := 4) hx hb hts in_J9 hown hK hP 0 rfl rfl 3 (by decide) (hts _ q323) (fun _ h9 => h9) rfl dJ9_init_16 ?_
  refine va_get (D := D) (ci := 9) (v := .int mc) (C := RJ2) (T := TJ2) (N := 3) hx hb hts in_J2 hown hK (hZ.at hS) 0 rfl rfl 0 (by decide) (hts _ q127) (u_same (hts _ q128)) rfl dJ9_init_19 ?_
  refine va_put (D := D) (ci := 13) (v := .int mc) (ty := .int) (C := RJ9) (T := TJ9) (N := 4) hx hb hts in_J9 tyJ9 tyJ9_ok nmJ9 hown hK hP hD hS 0 rfl rfl 2 (by decide) (hts _ q322) (fun _ h9 => h9) rfl (by decide +kernel) rfl rfl (Nat.le_of_ble_eq_true rfl) dJ9_init_22 (fun H locs hP hD hS => ?_)
  have hP : va_P D vwCl [(it, .inr (13, [.int 0, .int (-1), .int mc, .ref al]))] H := hP
  have hD : va_D A [(it, .inr (13, [.int 0, .int (-1), .int mc, .ref al]))] := hD
  exact z_vret hx hb hr hS (⟨trivial, hP⟩) (by omega) (by omega) dJ9_init_25

set_option maxHeartbeats 4000000 in
set_option maxRecDepth 100000 in
theorem mJ2_iterator (l : Launch) (D : va_G) (dA : Nat → ClassId) (ad : Nat → Nat) (sz : Nat) (al : Nat) (mc : Int32) (ae : Nat) (n : Nat) : Met l yJ2_iterator (ws_ yJ2_iterator cJ2_iterator 1 (some (.object "java/util/Iterator"))) ({ frames := 2, cells := 1, slots := 4, locals := 50 }) (va_Pc [.ref al] (zP D dA ad (fun q => sz ≤ q) sz (fun H => va_P D vwCl [(al, .inr (9, [.int mc, .ref ae, .int (nI (n))]))] H))) (zQr (fun rz H => True ∧ va_P D vwCl [(rz, .inr (13, [.int (nI (0)), .int (-1), .int mc, .ref al]))] H ∧ va_D (fun q => sz ≤ q) [(rz, .inr (13, [.int (nI (0)), .int (-1), .int mc, .ref al]))]) (fun q => sz ≤ q)) (1) (4) (fun q => sz ≤ q) := by
  refine Met.ofW (cc := cJ2_iterator) (maxL := 1) (ret := (some (.object "java/util/Iterator"))) (by decide) rfl ?_
  intro p e s m args below meth c s₁ B hml hv
  obtain ⟨rfl, hsz, hC, hP⟩ := hv
  have hx := B.exec
  have hb := B.bytes
  have hr := B.returns
  have hts := atoms_spec (ws := ws_ yJ2_iterator cJ2_iterator 1 (some (.object "java/util/Iterator"))) B.pre
  have hts : ∀ w ∈ lw_all, w.before _ s = true := fun w h => hts w (List.mem_cons_of_mem _ h)
  have hown : s.vm.findClass RJ2 = some m.cls := findClass_of_methodNamed B.named
  have hlocks := B.notSynchronized
  subst hsz
  have hK := hC.K
  have hA : ∀ q : Nat, s.heap.size ≤ q → s.heap.size ≤ q := fun _ h => h
  have hS : va_S (fun q => s.heap.size ≤ q) s.heap s.heap [] := va_S.rf
  have hZ := hP
  have hP : va_P D vwCl [] s.heap := va_Pnil
  have hZ : zFz D (fun q => s.heap.size ≤ q) [(al, .inr (9, [.int mc, .ref ae, .int (nI (n))]))] s.heap := zFz_ro hZ
  have hD : va_D (fun q => s.heap.size ≤ q) [] := va_Dnil
  have hl := lv_entry ([.ref al]) (n := 1) (Nat.le_of_ble_eq_true rfl)
  rw [lg_entry_eq]
  generalize (lg_sl ([.ref al]) ++ List.replicate (1 - (lg_sl ([.ref al])).length) Slot.unset).toArray = ls at hl ⊢
  have hl : lv_has ls 1 [(0, .ref al)] := hl
  refine va_new (D := D) (ci := 13) (fs := [.int 0, .int 0, .int 0, .null]) (C := RJ9) (T := TJ9) (N := 4) hx hb hts in_J9 tyJ9 tyJ9_ok hown (hts _ q314) (hts _ q315) (hts _ q68) hK hP hD hS hA rfl (fun j hj => by match j, hj with | 0, _ => rfl | 1, _ => rfl | 2, _ => rfl | 3, _ => rfl | j + 4, hj => exact absurd hj (by omega)) (by first | exact Nat.le_of_ble_eq_true rfl | (show _ ≤ _; simp only [headSpec]; omega)) (by first | exact Nat.le_of_ble_eq_true rfl | (show _ ≤ _; simp only [headSpec]; omega)) dJ2_iterator_0 (fun itq H hP hD hS => ?_)
  have hP : va_P D vwCl [(itq, .inr (13, [.int 0, .int 0, .int 0, .null]))] H := hP
  have hD : va_D (fun q => s.heap.size ≤ q) [(itq, .inr (13, [.int 0, .int 0, .int 0, .null]))] := hD
  refine lv_dup hx hb dJ2_iterator_3 rfl ?_
  refine lv_aload_n hx hb dJ2_iterator_4 rfl (lv_at hl 0 rfl) ?_
  refine z_cIv (As := [.ref al]) (rest := [.ref itq]) ⟨hx, hb, hml, hown, hts⟩ (mJ9_init l D dA ad (fun q => s.heap.size ≤ q) H.size itq al mc ae n (hA_up hA hS) (hD.sub [0] (by decide) rfl)) (cwI 1 hts (lw_meth q318) rfl rfl rfl (hts _ q68) (hts _ q316) (hts _ q317) rfl (by decide +kernel) ⟨Nat.le_of_ble_eq_true rfl, Nat.le_of_ble_eq_true rfl⟩) hC hS (fun _ h => h) ⟨(hP.sub (ws' := [(itq, .inr (13, [.int 0, .int 0, .int 0, .null]))]) [0] rfl), (zFz_mk ((hZ.at hS).sub (ws' := [(al, .inr (9, [.int mc, .ref ae, .int (nI (n))]))]) [0] rfl) (fun k q hk => by match k, hk with | 0, hk => cases hk; exact (hZ.out (q0 := 0) rfl) | k + 1, hk => simp at hk))⟩ rfl rfl hl.1 (Nat.le_of_ble_eq_true rfl) dJ2_iterator_5 ⟨Nat.le_of_ble_eq_true rfl, Nat.le_of_ble_eq_true rfl⟩ (fun H locs hQ hF hS => ?_)
  obtain ⟨hQ, hP⟩ := hQ
  have hD := va_D.same (ws' := [(itq, .inr (13, [.int (nI (0)), .int (-1), .int mc, .ref al]))]) (hD.sub (ws' := [(itq, .inr (13, [.int 0, .int 0, .int 0, .null]))]) [0] (by decide) rfl) rfl
  have hP : va_P D vwCl [(itq, .inr (13, [.int (nI (0)), .int (-1), .int mc, .ref al]))] H := hP
  have hD : va_D (fun q => s.heap.size ≤ q) [(itq, .inr (13, [.int (nI (0)), .int (-1), .int mc, .ref al]))] := hD
  exact z_aret (v := itq) hx hb hr (Or.inl ⟨_, rfl⟩) hS (⟨trivial, hP, hD⟩) (by omega) (by omega) dJ2_iterator_8

set_option maxHeartbeats 4000000 in
set_option maxRecDepth 100000 in
theorem mJ9_hasNext (l : Launch) (D : va_G) (dA : Nat → ClassId) (ad : Nat → Nat) (sz : Nat) (it : Nat) (k : Nat) (lr : Int32) (al : Nat) (mc : Int32) (ae : Nat) (n : Nat) (h1 : k ≤ 100000) (h2 : n ≤ 100000) : Met l yJ9_hasNext (ws_ yJ9_hasNext cJ9_hasNext 1 (some .boolean)) ({ frames := 0, cells := 0, slots := 0, locals := 0 }) (va_Pc [.ref it] (zP D dA ad (fun q => sz ≤ q) sz (fun H => va_P D vwCl [(it, .inr (13, [.int (nI (k)), .int lr, .int mc, .ref al])), (al, .inr (9, [.int mc, .ref ae, .int (nI (n))]))] H))) (zQi (fun rz H => rz = bI (k ≠ n)) (fun q => sz ≤ q)) (0) (0) (fun q => sz ≤ q) := by
  refine Met.ofW (cc := cJ9_hasNext) (maxL := 1) (ret := (some .boolean)) (by decide) rfl ?_
  intro p e s m args below meth c s₁ B hml hv
  obtain ⟨rfl, hsz, hC, hP⟩ := hv
  have hx := B.exec
  have hb := B.bytes
  have hr := B.returns
  have hts := atoms_spec (ws := ws_ yJ9_hasNext cJ9_hasNext 1 (some .boolean)) B.pre
  have hts : ∀ w ∈ lw_all, w.before _ s = true := fun w h => hts w (List.mem_cons_of_mem _ h)
  have hown : s.vm.findClass RJ9 = some m.cls := findClass_of_methodNamed B.named
  have hlocks := B.notSynchronized
  subst hsz
  have hK := hC.K
  have hA : ∀ q : Nat, s.heap.size ≤ q → s.heap.size ≤ q := fun _ h => h
  have hS : va_S (fun q => s.heap.size ≤ q) s.heap s.heap [] := va_S.rf
  have hP : va_P D vwCl [(it, .inr (13, [.int (nI (k)), .int lr, .int mc, .ref al])), (al, .inr (9, [.int mc, .ref ae, .int (nI (n))]))] s.heap := hP
  have hl := lv_entry ([.ref it]) (n := 1) (Nat.le_of_ble_eq_true rfl)
  rw [lg_entry_eq]
  generalize (lg_sl ([.ref it]) ++ List.replicate (1 - (lg_sl ([.ref it])).length) Slot.unset).toArray = ls at hl ⊢
  have hl : lv_has ls 1 [(0, .ref it)] := hl
  refine lv_aload_n hx hb dJ9_hasNext_0 rfl (lv_at hl 0 rfl) ?_
  refine va_get (D := D) (ci := 13) (v := .int (nI (k))) (C := RJ9) (T := TJ9) (N := 4) hx hb hts in_J9 hown hK hP 0 rfl rfl 0 (by decide) (hts _ q320) (fun _ h9 => h9) rfl dJ9_hasNext_1 ?_
  refine lv_aload_n hx hb dJ9_hasNext_4 rfl (lv_at hl 0 rfl) ?_
  refine va_get (D := D) (ci := 13) (v := .ref al) (C := RJ9) (T := TJ9) (N := 4) hx hb hts in_J9 hown hK hP 0 rfl rfl 3 (by decide) (hts _ q323) (fun _ h9 => h9) rfl dJ9_hasNext_5 ?_
  refine va_getN (D := D) (ci := 9) (v := .int (nI (n))) (C := RJ2) (T := TJ2) (N := 3) hx hb hts in_J2 hown hK hP 1 rfl rfl 2 (by decide) (Cx.nF hC (List.mem_of_getElem? (i := 0) rfl)) (fun _ h9 => h9) rfl dJ9_hasNext_8 ?_
  refine lv_icmp_eq (tgt := 18) hx hb dJ9_hasNext_11 (by decide) (fun c_1 => ?_) (fun c_1 => ?_)
  · have c_1 := (nI_eq (by omega) (by omega)).1 c_1
    refine lv_iconst (v := nI (0)) hx hb dJ9_hasNext_18 (by decide) ?_
    exact z_zret (v := nI (0)) hx hb hr (by first | rfl | decide) hS ((bI_f (fun q => q c_1)).symm) (by omega) (by omega) dJ9_hasNext_19
  · have c_1 := mt (nI_eq (by omega) (by omega)).2 c_1
    refine lv_iconst (v := nI (1)) hx hb dJ9_hasNext_14 (by decide) ?_
    refine lv_goto (tgt := 19) hx hb dJ9_hasNext_15 (by decide) ?_
    exact z_zret (v := nI (1)) hx hb hr (by first | rfl | decide) hS ((bI_t c_1).symm) (by omega) (by omega) dJ9_hasNext_19

set_option maxHeartbeats 4000000 in
set_option maxRecDepth 100000 in
theorem mJ9_checkForComodification (l : Launch) (D : va_G) (dA : Nat → ClassId) (ad : Nat → Nat) (sz : Nat) (it : Nat) (k : Nat) (lr : Int32) (al : Nat) (mc : Int32) (ae : Nat) (n : Nat) : Met l yJ9_checkForComodification (ws_ yJ9_checkForComodification cJ9_checkForComodification 1 none) ({ frames := 0, cells := 0, slots := 0, locals := 0 }) (va_Pc [.ref it] (zP D dA ad (fun q => sz ≤ q) sz (fun H => va_P D vwCl [(it, .inr (13, [.int (nI (k)), .int lr, .int mc, .ref al])), (al, .inr (9, [.int mc, .ref ae, .int (nI (n))]))] H))) (zQv (fun H => True) (fun q => sz ≤ q)) (0) (0) (fun q => sz ≤ q) := by
  refine Met.ofW (cc := cJ9_checkForComodification) (maxL := 1) (ret := none) (by decide) rfl ?_
  intro p e s m args below meth c s₁ B hml hv
  obtain ⟨rfl, hsz, hC, hP⟩ := hv
  have hx := B.exec
  have hb := B.bytes
  have hr := B.returns
  have hts := atoms_spec (ws := ws_ yJ9_checkForComodification cJ9_checkForComodification 1 none) B.pre
  have hts : ∀ w ∈ lw_all, w.before _ s = true := fun w h => hts w (List.mem_cons_of_mem _ h)
  have hown : s.vm.findClass RJ9 = some m.cls := findClass_of_methodNamed B.named
  have hlocks := B.notSynchronized
  subst hsz
  have hK := hC.K
  have hA : ∀ q : Nat, s.heap.size ≤ q → s.heap.size ≤ q := fun _ h => h
  have hS : va_S (fun q => s.heap.size ≤ q) s.heap s.heap [] := va_S.rf
  have hP : va_P D vwCl [(it, .inr (13, [.int (nI (k)), .int lr, .int mc, .ref al])), (al, .inr (9, [.int mc, .ref ae, .int (nI (n))]))] s.heap := hP
  have hl := lv_entry ([.ref it]) (n := 1) (Nat.le_of_ble_eq_true rfl)
  rw [lg_entry_eq]
  generalize (lg_sl ([.ref it]) ++ List.replicate (1 - (lg_sl ([.ref it])).length) Slot.unset).toArray = ls at hl ⊢
  have hl : lv_has ls 1 [(0, .ref it)] := hl
  refine lv_aload_n hx hb dJ9_checkForComodification_0 rfl (lv_at hl 0 rfl) ?_
  refine va_get (D := D) (ci := 13) (v := .ref al) (C := RJ9) (T := TJ9) (N := 4) hx hb hts in_J9 hown hK hP 0 rfl rfl 3 (by decide) (hts _ q323) (fun _ h9 => h9) rfl dJ9_checkForComodification_1 ?_
  refine va_get (D := D) (ci := 9) (v := .int mc) (C := RJ2) (T := TJ2) (N := 3) hx hb hts in_J2 hown hK hP 1 rfl rfl 0 (by decide) (hts _ q127) (u_same (hts _ q128)) rfl dJ9_checkForComodification_4 ?_
  refine lv_aload_n hx hb dJ9_checkForComodification_7 rfl (lv_at hl 0 rfl) ?_
  refine va_get (D := D) (ci := 13) (v := .int mc) (C := RJ9) (T := TJ9) (N := 4) hx hb hts in_J9 hown hK hP 0 rfl rfl 2 (by decide) (hts _ q322) (fun _ h9 => h9) rfl dJ9_checkForComodification_8 ?_
  refine lv_icmp_eq (tgt := 22) hx hb dJ9_checkForComodification_11 (by decide) (fun c_1 => ?_) (fun c_1 => ?_)
  · exact z_vret hx hb hr hS (trivial) (by omega) (by omega) dJ9_checkForComodification_22
  · exact absurd rfl c_1

set_option maxHeartbeats 4000000 in
set_option maxRecDepth 100000 in
theorem mJ9_next (l : Launch) (D : va_G) (dA : Nat → ClassId) (ad : Nat → Nat) (A : Nat → Prop) (sz : Nat) (it : Nat) (k : Nat) (lr : Int32) (al : Nat) (mc : Int32) (ae : Nat) (n : Nat) (cap : Nat) (g : Nat → Option Nat) (y : Nat) (hA : ∀ q, sz ≤ q → A q) (h1 : k < n) (h2 : n ≤ cap) (h3 : cap ≤ 100000) (hg : g k = some y) (hD : va_D A [(it, .inr (13, [.int (nI (k)), .int lr, .int mc, .ref al]))]) : Met l yJ9_next (ws_ yJ9_next cJ9_next 3 (some (.object "java/lang/Object"))) ({ frames := 2, cells := 0, slots := 0, locals := 60 }) (va_Pc [.ref it] (zP D dA ad A sz (fun H => va_P D vwCl [(it, .inr (13, [.int (nI (k)), .int lr, .int mc, .ref al]))] H ∧ zFz D A [(al, .inr (9, [.int mc, .ref ae, .int (nI (n))])), (ae, .inl (dA 3, cap, .inr (.inr (.inr (.inr g)))))] H))) (zQr (fun rz H => rz = y ∧ va_P D vwCl [(it, .inr (13, [.int (nI (k + 1)), .int (nI (k)), .int mc, .ref al]))] H) A) (0) (0) A := by
  refine Met.ofW (cc := cJ9_next) (maxL := 3) (ret := (some (.object "java/lang/Object"))) (by decide) rfl ?_
  intro p e s m args below meth c s₁ B hml hv
  obtain ⟨rfl, hsz, hC, hP⟩ := hv
  have hx := B.exec
  have hb := B.bytes
  have hr := B.returns
  have hts := atoms_spec (ws := ws_ yJ9_next cJ9_next 3 (some (.object "java/lang/Object"))) B.pre
  have hts : ∀ w ∈ lw_all, w.before _ s = true := fun w h => hts w (List.mem_cons_of_mem _ h)
  have hown : s.vm.findClass RJ9 = some m.cls := findClass_of_methodNamed B.named
  have hlocks := B.notSynchronized
  subst hsz
  have hK := hC.K
  have hS : va_S A s.heap s.heap [] := va_S.rf
  obtain ⟨hP, hZ⟩ := hP
  have hP : va_P D vwCl [(it, .inr (13, [.int (nI (k)), .int lr, .int mc, .ref al]))] s.heap := hP
  have hl := lv_entry ([.ref it]) (n := 3) (Nat.le_of_ble_eq_true rfl)
  rw [lg_entry_eq]
  generalize (lg_sl ([.ref it]) ++ List.replicate (3 - (lg_sl ([.ref it])).length) Slot.unset).toArray = ls at hl ⊢
  have hl : lv_has ls 3 [(0, .ref it)] := hl
  refine lv_aload_n hx hb dJ9_next_0 rfl (lv_at hl 0 rfl) ?_
  refine z_cVv (As := []) (rest := []) ⟨hx, hb, hml, hown, hts⟩ (mJ9_checkForComodification l D dA ad s.heap.size it k lr al mc ae n) (cwV 0 hts (lw_V q352 q353 q354 q68 q355) rfl rfl rfl (by decide +kernel) ⟨Nat.le_of_ble_eq_true rfl, Nat.le_of_ble_eq_true rfl⟩) hC hS (fun _ h => hA _ (Nat.le_trans hS.1 h)) ((hP.app (hZ.at hS)).sub (ws' := [(it, .inr (13, [.int (nI (k)), .int lr, .int mc, .ref al])), (al, .inr (9, [.int mc, .ref ae, .int (nI (n))]))]) [0, 1] rfl) (va_recv hK hP (ci := 13) (q0 := 0) rfl rfl) rfl rfl hl.1 (Nat.le_of_ble_eq_true rfl) dJ9_next_1 ⟨Nat.le_of_ble_eq_true rfl, Nat.le_of_ble_eq_true rfl⟩ (fun H locs hQ hF hS => ?_)
  have hP := va_P.ro hF hP
  refine lv_aload_n hx hb dJ9_next_4 rfl (lv_at hl 0 rfl) ?_
  refine va_get (D := D) (ci := 13) (v := .int (nI (k))) (C := RJ9) (T := TJ9) (N := 4) hx hb hts in_J9 hown hK hP 0 rfl rfl 0 (by decide) (hts _ q320) (fun _ h9 => h9) rfl dJ9_next_5 ?_
  refine lv_istore_n (lv' := [(1, .int (nI (k))), (0, .ref it)]) hx hb dJ9_next_8 rfl hl (by decide) rfl (fun ls hl => ?_)
  refine lv_iload_n hx hb dJ9_next_9 rfl (lv_at hl 0 rfl) ?_
  refine lv_aload_n hx hb dJ9_next_10 rfl (lv_at hl 1 rfl) ?_
  refine va_get (D := D) (ci := 13) (v := .ref al) (C := RJ9) (T := TJ9) (N := 4) hx hb hts in_J9 hown hK hP 0 rfl rfl 3 (by decide) (hts _ q323) (fun _ h9 => h9) rfl dJ9_next_11 ?_
  refine va_getN (D := D) (ci := 9) (v := .int (nI (n))) (C := RJ2) (T := TJ2) (N := 3) hx hb hts in_J2 hown hK (hZ.at hS) 0 rfl rfl 2 (by decide) (Cx.nF hC (List.mem_of_getElem? (i := 0) rfl)) (fun _ h9 => h9) rfl dJ9_next_14 ?_
  refine lv_icmp_lt (tgt := 28) hx hb dJ9_next_17 (by decide) (fun c_2 => ?_) (fun c_2 => ?_)
  · have c_2 := (nI_ltI (by omega) (by omega)).1 c_2
    refine lv_aload_n hx hb dJ9_next_28 rfl (lv_at hl 1 rfl) ?_
    refine va_get (D := D) (ci := 13) (v := .ref al) (C := RJ9) (T := TJ9) (N := 4) hx hb hts in_J9 hown hK hP 0 rfl rfl 3 (by decide) (hts _ q323) (fun _ h9 => h9) rfl dJ9_next_29 ?_
    refine va_get (D := D) (ci := 9) (v := .ref ae) (C := RJ2) (T := TJ2) (N := 3) hx hb hts in_J2 hown hK (hZ.at hS) 0 rfl rfl 1 (by decide) (hts _ q123) (fun _ h9 => h9) rfl dJ9_next_32 ?_
    refine lv_astore_n (lv' := [(2, .ref ae), (1, .int (nI (k))), (0, .ref it)]) hx hb dJ9_next_35 rfl hl (by decide) rfl (fun ls hl => ?_)
    refine lv_iload_n hx hb dJ9_next_36 rfl (lv_at hl 1 rfl) ?_
    refine lv_aload_n hx hb dJ9_next_37 rfl (lv_at hl 0 rfl) ?_
    refine va_alen (v := nI (cap)) hx hb hK (hZ.at hS) 1 3 rfl rfl rfl dJ9_next_38 ?_
    refine lv_icmp_lt (tgt := 50) hx hb dJ9_next_39 (by decide) (fun c_3 => ?_) (fun c_3 => ?_)
    · have c_3 := (nI_ltI (by omega) (by omega)).1 c_3
      refine lv_aload_n hx hb dJ9_next_50 rfl (lv_at hl 2 rfl) ?_
      refine lv_iload_n hx hb dJ9_next_51 rfl (lv_at hl 1 rfl) ?_
      refine lv_iconst (v := nI (1)) hx hb dJ9_next_52 (by decide) ?_
      refine lv_iadd hx hb dJ9_next_53 ?_
      refine lv_tope (y := nI (k + 1)) (nI_add _ _) ?_
      refine va_put (D := D) (ci := 13) (v := .int (nI (k + 1))) (ty := .int) (C := RJ9) (T := TJ9) (N := 4) hx hb hts in_J9 tyJ9 tyJ9_ok nmJ9 hown hK hP hD hS 0 rfl rfl 0 (by decide) (hts _ q320) (fun _ h9 => h9) rfl (by decide +kernel) rfl rfl (Nat.le_of_ble_eq_true rfl) dJ9_next_54 (fun H locs hP hD hS => ?_)
      have hP : va_P D vwCl [(it, .inr (13, [.int (nI (k + 1)), .int lr, .int mc, .ref al]))] H := hP
      have hD : va_D A [(it, .inr (13, [.int (nI (k + 1)), .int lr, .int mc, .ref al]))] := hD
      refine lv_aload_n hx hb dJ9_next_57 rfl (lv_at hl 0 rfl) ?_
      refine lv_aload_n hx hb dJ9_next_58 rfl (lv_at hl 2 rfl) ?_
      refine lv_iload_n hx hb dJ9_next_59 rfl (lv_at hl 1 rfl) ?_
      refine lv_dup_x1 hx hb dJ9_next_60 rfl rfl ?_
      refine va_put (D := D) (ci := 13) (v := .int (nI (k))) (ty := .int) (C := RJ9) (T := TJ9) (N := 4) hx hb hts in_J9 tyJ9 tyJ9_ok nmJ9 hown hK hP hD hS 0 rfl rfl 1 (by decide) (hts _ q321) (fun _ h9 => h9) rfl (by decide +kernel) rfl rfl (Nat.le_of_ble_eq_true rfl) dJ9_next_61 (fun H locs hP hD hS => ?_)
      have hP : va_P D vwCl [(it, .inr (13, [.int (nI (k + 1)), .int (nI (k)), .int mc, .ref al]))] H := hP
      have hD : va_D A [(it, .inr (13, [.int (nI (k + 1)), .int (nI (k)), .int mc, .ref al]))] := hD
      refine va_aldq hx hb hK (hZ.at hS) 1 3 rfl rfl (vp_in_nI (by omega) (by omega)) dJ9_next_64 ?_
      refine lv_topv (y := .ref y) (by rw [nI_clamp (by omega)]; rw [hg]; rfl) ?_
      exact z_aret (v := y) hx hb hr (Or.inl ⟨_, rfl⟩) hS (⟨rfl, hP⟩) (by omega) (by omega) dJ9_next_65
    · have c_3 := mt (nI_ltI (by omega) (by omega)).2 c_3
      omega
  · have c_2 := mt (nI_ltI (by omega) (by omega)).2 c_2
    omega
