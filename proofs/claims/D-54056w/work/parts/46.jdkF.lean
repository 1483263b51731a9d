set_option maxHeartbeats 4000000 in
set_option maxRecDepth 100000 in
theorem mJ12_copyOf_4 (l : Launch) (D : va_G) (dA : Nat → ClassId) (ad : Nat → Nat) (sz : Nat) (ar : Nat) (n : Nat) (g : Nat → Int32) (k : Nat) (h1 : n < k) (h2 : k ≤ 65536) (hG : ByG g n) : Met l yJ12_copyOf_4 (ws_ yJ12_copyOf_4 cJ12_copyOf_4 3 (some (.array .byte))) ({ frames := 1, cells := 1, slots := k, locals := 60 }) (va_Pc [.ref ar, .int (nI (k))] (zP D dA ad (fun q => sz ≤ q) sz (fun H => va_P D vwCl [(ar, .inl (dA 2, n, .inl g))] H))) (zQr (fun rz H => True ∧ va_P D vwCl [(rz, .inl (dA 2, k, .inl (va_cpy g (fun _ => 0) 0 0 n)))] H ∧ va_D (fun q => sz ≤ q) [(rz, .inl (dA 2, k, .inl (va_cpy g (fun _ => 0) 0 0 n)))]) (fun q => sz ≤ q)) (1) (k) (fun q => sz ≤ q) := by
  refine Met.ofW (cc := cJ12_copyOf_4) (maxL := 3) (ret := (some (.array .byte))) (by decide) rfl ?_
  intro p e s m args below meth c s₁ B hml hv
  obtain ⟨rfl, hsz, hC, hP⟩ := hv
  have hx := B.exec
  have hb := B.bytes
  have hr := B.returns
  have hts := atoms_spec (ws := ws_ yJ12_copyOf_4 cJ12_copyOf_4 3 (some (.array .byte))) B.pre
  have hts : ∀ w ∈ lw_all, w.before _ s = true := fun w h => hts w (List.mem_cons_of_mem _ h)
  have hown : s.vm.findClass RJ12 = some m.cls := findClass_of_methodNamed B.named
  have hlocks := B.notSynchronized
  subst hsz
  have hK := hC.K
  have hA : ∀ q : Nat, s.heap.size ≤ q → s.heap.size ≤ q := fun _ h => h
  have hS : va_S (fun q => s.heap.size ≤ q) s.heap s.heap [] := va_S.rf
  have hZ := hP
  have hP : va_P D vwCl [] s.heap := va_Pnil
  have hZ : zFz D (fun q => s.heap.size ≤ q) [(ar, .inl (dA 2, n, .inl g))] s.heap := zFz_ro hZ
  have hD : va_D (fun q => s.heap.size ≤ q) [] := va_Dnil
  have hl := lv_entry ([.ref ar, .int (nI (k))]) (n := 3) (Nat.le_of_ble_eq_true rfl)
  rw [lg_entry_eq]
  generalize (lg_sl ([.ref ar, .int (nI (k))]) ++ List.replicate (3 - (lg_sl ([.ref ar, .int (nI (k))])).length) Slot.unset).toArray = ls at hl ⊢
  have hl : lv_has ls 3 [(0, .ref ar), (1, .int (nI (k)))] := hl
  refine lv_iload_n hx hb dJ12_copyOf_4_0 rfl (lv_at hl 1 rfl) ?_
  refine lv_aload_n hx hb dJ12_copyOf_4_1 rfl (lv_at hl 0 rfl) ?_
  refine va_alen (v := nI (n)) hx hb hK (hZ.at hS) 0 2 rfl rfl rfl dJ12_copyOf_4_2 ?_
  refine lv_icmp_ne (tgt := 14) hx hb dJ12_copyOf_4_3 (by decide) (fun c_1 => ?_) (fun c_1 => ?_)
  · have c_1 := mt (nI_eq (by omega) (by omega)).2 c_1
    refine lv_iload_n hx hb dJ12_copyOf_4_14 rfl (lv_at hl 1 rfl) ?_
    refine z_newb hx hb (hts _ q282) hK hP hD hS hA (N := k) (by first | omega | decide) (by first | exact Nat.le_of_ble_eq_true rfl | (show _ ≤ _; simp only [headSpec]; omega)) (by first | exact Nat.le_of_ble_eq_true rfl | (show _ ≤ _; simp only [headSpec]; omega)) dJ12_copyOf_4_15 (fun qn H hP hD hS hz9 hk9 hq9 => ?_)
    have hP : va_P D vwCl [(qn, .inl (dA 2, k, .inl (fun _ => 0)))] H := hP
    have hD : va_D (fun q => s.heap.size ≤ q) [(qn, .inl (dA 2, k, .inl (fun _ => 0)))] := hD
    refine lv_astore_n (lv' := [(2, .ref qn), (0, .ref ar), (1, .int (nI (k)))]) hx hb dJ12_copyOf_4_17 rfl hl (by decide) rfl (fun ls hl => ?_)
    refine lv_aload_n hx hb dJ12_copyOf_4_18 rfl (lv_at hl 1 rfl) ?_
    refine lv_iconst (v := nI (0)) hx hb dJ12_copyOf_4_19 (by decide) ?_
    refine lv_aload_n hx hb dJ12_copyOf_4_20 rfl (lv_at hl 0 rfl) ?_
    refine lv_iconst (v := nI (0)) hx hb dJ12_copyOf_4_21 (by decide) ?_
    refine lv_aload_n hx hb dJ12_copyOf_4_22 rfl (lv_at hl 1 rfl) ?_
    refine va_alen (v := nI (n)) hx hb hK (hZ.at hS) 0 2 rfl rfl rfl dJ12_copyOf_4_23 ?_
    refine lv_iload_n hx hb dJ12_copyOf_4_24 rfl (lv_at hl 2 rfl) ?_
    refine va_mmin hx hb (hml.trans hl.1.symm) hown (hts _ q409) (hts _ q410) (hts _ q70) (hts _ q411) (Nat.le_of_ble_eq_true rfl) (Nat.le_of_ble_eq_true rfl) (by first | exact Nat.le_of_ble_eq_true rfl | (show _ ≤ _; simp only [headSpec]; omega)) (by first | exact Nat.le_of_ble_eq_true rfl | (show _ ≤ _; simp only [headSpec]; omega)) dJ12_copyOf_4_25 ?_
    refine lv_tope (y := nI (if k < n then k else n)) (mn_n (by omega) (by omega)) ?_
    refine lv_tope (y := nI (n)) (by rw [if_neg (by omega)]) ?_
    refine z_copyb (q1 := 0) (q0 := 0) hx hb (hml.trans hl.1.symm) hown (hts _ q412) (hts _ q414) (hts _ q413) (hts _ q72) hC hP hD hS (hZ.at hS) rfl rfl (by omega) (by omega) (by omega) hG (Nat.le_of_ble_eq_true rfl) (Nat.le_of_ble_eq_true rfl) dJ12_copyOf_4_28 (fun H locs hP hD hS => ?_)
    have hP : va_P D vwCl [(qn, .inl (dA 2, k, .inl (va_cpy g (fun _ => 0) 0 0 n)))] H := hP
    have hD : va_D (fun q => s.heap.size ≤ q) [(qn, .inl (dA 2, k, .inl (va_cpy g (fun _ => 0) 0 0 n)))] := hD
    refine lv_aload_n hx hb dJ12_copyOf_4_31 rfl (lv_at hl 0 rfl) ?_
    exact z_aret (v := qn) hx hb hr (Or.inr ⟨_, rfl⟩) hS (⟨trivial, hP, hD⟩) (by decide) (by omega) dJ12_copyOf_4_32
  · have c_1 := (nI_eq (by omega) (by omega)).1 c_1
    omega

set_option maxHeartbeats 4000000 in
set_option maxRecDepth 100000 in
theorem mJ5_init (l : Launch) (D : va_G) (dA : Nat → ClassId) (ad : Nat → Nat) (A : Nat → Prop) (sz : Nat) (sb : Nat) (x0 : Option Nat) (x1 : Int32) (ml : Int32) (n : Int32) (hA : ∀ q, sz ≤ q → A q) (hD : va_D A [(sb, .inr (12, [va_rf x0, .int x1, .int ml, .int n]))]) : Met l yJ5_init (ws_ yJ5_init cJ5_init 2 none) ({ frames := 1, cells := 1, slots := 16, locals := 30 }) (va_Pc [.ref sb, .int (nI (16))] (zP D dA ad A sz (fun H => va_P D vwCl [(sb, .inr (12, [va_rf x0, .int x1, .int ml, .int n]))] H))) (zQv (fun H => ∃ sv : Nat, True ∧ va_P D vwCl [(sb, .inr (12, [.ref sv, .int (nI (0)), .int ml, .int n])), (sv, .inl (dA 2, 16, .inl (fun _ => 0)))] H ∧ va_D A [(sb, .inr (12, [.ref sv, .int (nI (0)), .int ml, .int n])), (sv, .inl (dA 2, 16, .inl (fun _ => 0)))]) A) (1) (16) A := by
  refine Met.ofW (cc := cJ5_init) (maxL := 2) (ret := none) (by decide) rfl ?_
  intro p e s m args below meth c s₁ B hml hv
  obtain ⟨rfl, hsz, hC, hP⟩ := hv
  have hx := B.exec
  have hb := B.bytes
  have hr := B.returns
  have hts := atoms_spec (ws := ws_ yJ5_init cJ5_init 2 none) B.pre
  have hts : ∀ w ∈ lw_all, w.before _ s = true := fun w h => hts w (List.mem_cons_of_mem _ h)
  have hown : s.vm.findClass RJ5 = some m.cls := findClass_of_methodNamed B.named
  have hlocks := B.notSynchronized
  have hin : meth.name = "<init>" := (name_of_methodNamed B.named B.method).1
  subst hsz
  have hK := hC.K
  have hS : va_S A s.heap s.heap [] := va_S.rf
  have hP : va_P D vwCl [(sb, .inr (12, [va_rf x0, .int x1, .int ml, .int n]))] s.heap := hP
  have hl := lv_entry ([.ref sb, .int (nI (16))]) (n := 2) (Nat.le_of_ble_eq_true rfl)
  rw [lg_entry_eq]
  generalize (lg_sl ([.ref sb, .int (nI (16))]) ++ List.replicate (2 - (lg_sl ([.ref sb, .int (nI (16))])).length) Slot.unset).toArray = ls at hl ⊢
  have hl : lv_has ls 2 [(0, .ref sb), (1, .int (nI (16)))] := hl
  refine lv_aload_n hx hb dJ5_init_0 rfl (lv_at hl 0 rfl) ?_
  refine W.objInit hx hb hown (hts _ q259) (hts _ q92) (hts _ q93) rfl (by rw [hml]; exact hl.1) rfl dJ5_init_1 (Nat.le_of_ble_eq_true rfl) (Nat.le_of_ble_eq_true rfl) ?_
  refine W.eq (g2 := F0 m 4 ls []) rfl ?_
  refine va_gets (v := .int (nI (1))) hx hb hC.zC hS hown (hts _ q260) (fun _ h9 => h9) dJ5_init_4 ?_
  refine lv_if_eq (tgt := 25) hx hb dJ5_init_7 (by decide) (fun c_1 => ?_) (fun c_1 => ?_)
  · exact absurd c_1 (by decide)
  · refine lv_aload_n hx hb dJ5_init_10 rfl (lv_at hl 0 rfl) ?_
    refine lv_iload_n hx hb dJ5_init_11 rfl (lv_at hl 1 rfl) ?_
    refine z_newb hx hb (hts _ q282) hK hP hD hS hA (N := 16) (by first | omega | decide) (by first | exact Nat.le_of_ble_eq_true rfl | (show _ ≤ _; simp only [headSpec]; omega)) (by first | exact Nat.le_of_ble_eq_true rfl | (show _ ≤ _; simp only [headSpec]; omega)) dJ5_init_12 (fun qn H hP hD hS hz9 hk9 hq9 => ?_)
    have hP : va_P D vwCl [(sb, .inr (12, [va_rf x0, .int x1, .int ml, .int n])), (qn, .inl (dA 2, 16, .inl (fun _ => 0)))] H := hP
    have hD : va_D A [(sb, .inr (12, [va_rf x0, .int x1, .int ml, .int n])), (qn, .inl (dA 2, 16, .inl (fun _ => 0)))] := hD
    refine va_put (D := D) (ci := 12) (v := .ref qn) (ty := .array .byte) (C := RJ6) (T := TJ6) (N := 4) hx hb hts in_J6 tyJ6 tyJ6_ok nmJ6 hown hK hP hD hS 0 rfl rfl 0 (by decide) (hts _ q269) (fun _ h9 => h9) rfl (by decide +kernel) rfl rfl (Nat.le_of_ble_eq_true rfl) dJ5_init_14 (fun H locs hP hD hS => ?_)
    have hP : va_P D vwCl [(sb, .inr (12, [.ref qn, .int x1, .int ml, .int n])), (qn, .inl (dA 2, 16, .inl (fun _ => 0)))] H := hP
    have hD : va_D A [(sb, .inr (12, [.ref qn, .int x1, .int ml, .int n])), (qn, .inl (dA 2, 16, .inl (fun _ => 0)))] := hD
    refine lv_aload_n hx hb dJ5_init_17 rfl (lv_at hl 0 rfl) ?_
    refine lv_iconst (v := nI (0)) hx hb dJ5_init_18 (by decide) ?_
    refine va_put (D := D) (ci := 12) (v := .int (nI (0))) (ty := .byte) (C := RJ6) (T := TJ6) (N := 4) hx hb hts in_J6 tyJ6 tyJ6_ok nmJ6 hown hK hP hD hS 0 rfl rfl 1 (by decide) (hts _ q270) (fun _ h9 => h9) rfl (by decide +kernel) rfl rfl (Nat.le_of_ble_eq_true rfl) dJ5_init_19 (fun H locs hP hD hS => ?_)
    have hP : va_P D vwCl [(sb, .inr (12, [.ref qn, .int (nI (0)), .int ml, .int n])), (qn, .inl (dA 2, 16, .inl (fun _ => 0)))] H := hP
    have hD : va_D A [(sb, .inr (12, [.ref qn, .int (nI (0)), .int ml, .int n])), (qn, .inl (dA 2, 16, .inl (fun _ => 0)))] := hD
    refine lv_goto (tgt := 38) hx hb dJ5_init_22 (by decide) ?_
    exact z_vret hx hb hr hS (⟨qn, trivial, hP, hD⟩) (by decide) (by decide) dJ5_init_38

set_option maxHeartbeats 4000000 in
set_option maxRecDepth 100000 in
theorem mJ6_init (l : Launch) (D : va_G) (dA : Nat → ClassId) (ad : Nat → Nat) (A : Nat → Prop) (sz : Nat) (sb : Nat) (x0 : Option Nat) (x1 : Int32) (ml : Int32) (n : Int32) (hA : ∀ q, sz ≤ q → A q) (hD : va_D A [(sb, .inr (12, [va_rf x0, .int x1, .int ml, .int n]))]) : Met l yJ6_init (ws_ yJ6_init cJ6_init 1 none) ({ frames := 2, cells := 1, slots := 16, locals := 60 }) (va_Pc [.ref sb] (zP D dA ad A sz (fun H => va_P D vwCl [(sb, .inr (12, [va_rf x0, .int x1, .int ml, .int n]))] H))) (zQv (fun H => ∃ sv : Nat, True ∧ va_P D vwCl [(sb, .inr (12, [.ref sv, .int (nI (0)), .int ml, .int n])), (sv, .inl (dA 2, 16, .inl (fun _ => 0)))] H ∧ va_D A [(sb, .inr (12, [.ref sv, .int (nI (0)), .int ml, .int n])), (sv, .inl (dA 2, 16, .inl (fun _ => 0)))]) A) (1) (16) A := by
  refine Met.ofW (cc := cJ6_init) (maxL := 1) (ret := none) (by decide) rfl ?_
  intro p e s m args below meth c s₁ B hml hv
  obtain ⟨rfl, hsz, hC, hP⟩ := hv
  have hx := B.exec
  have hb := B.bytes
  have hr := B.returns
  have hts := atoms_spec (ws := ws_ yJ6_init cJ6_init 1 none) B.pre
  have hts : ∀ w ∈ lw_all, w.before _ s = true := fun w h => hts w (List.mem_cons_of_mem _ h)
  have hown : s.vm.findClass RJ6 = some m.cls := findClass_of_methodNamed B.named
  have hlocks := B.notSynchronized
  have hin : meth.name = "<init>" := (name_of_methodNamed B.named B.method).1
  subst hsz
  have hK := hC.K
  have hS : va_S A s.heap s.heap [] := va_S.rf
  have hP : va_P D vwCl [(sb, .inr (12, [va_rf x0, .int x1, .int ml, .int n]))] s.heap := hP
  have hl := lv_entry ([.ref sb]) (n := 1) (Nat.le_of_ble_eq_true rfl)
  rw [lg_entry_eq]
  generalize (lg_sl ([.ref sb]) ++ List.replicate (1 - (lg_sl ([.ref sb])).length) Slot.unset).toArray = ls at hl ⊢
  have hl : lv_has ls 1 [(0, .ref sb)] := hl
  refine lv_aload_n hx hb dJ6_init_0 rfl (lv_at hl 0 rfl) ?_
  refine lv_bipush (v := nI (16)) hx hb dJ6_init_1 (by decide) ?_
  refine z_cIv (As := [.int (nI (16))]) (rest := []) ⟨hx, hb, hml, hown, hts⟩ (mJ5_init l D dA ad A s.heap.size sb x0 x1 ml n (hA_up hA hS) (hD.sub [0] (by decide) rfl)) (cwI 1 hts (lw_meth q258) rfl rfl rfl (hts _ q63) (hts _ q256) (hts _ q257) rfl (by decide +kernel) ⟨Nat.le_of_ble_eq_true rfl, Nat.le_of_ble_eq_true rfl⟩) hC hS (fun _ h => h) (hP.sub (ws' := [(sb, .inr (12, [va_rf x0, .int x1, .int ml, .int n]))]) [0] rfl) rfl rfl hl.1 (Nat.le_of_ble_eq_true rfl) dJ6_init_3 ⟨Nat.le_of_ble_eq_true rfl, Nat.le_of_ble_eq_true rfl⟩ (fun H locs hQ hF hS => ?_)
  obtain ⟨sv_2, hQ, hP1, hD1⟩ := hQ
  have hP := hP1
  have hD := hD1
  have hP : va_P D vwCl [(sb, .inr (12, [.ref sv_2, .int (nI (0)), .int ml, .int n])), (sv_2, .inl (dA 2, 16, .inl (fun _ => 0)))] H := hP
  have hD : va_D A [(sb, .inr (12, [.ref sv_2, .int (nI (0)), .int ml, .int n])), (sv_2, .inl (dA 2, 16, .inl (fun _ => 0)))] := hD
  exact z_vret hx hb hr hS (⟨sv_2, trivial, hP, hD⟩) (by decide) (by decide) dJ6_init_6

set_option maxHeartbeats 4000000 in
set_option maxRecDepth 100000 in
theorem mJ5_length (l : Launch) (D : va_G) (dA : Nat → ClassId) (ad : Nat → Nat) (sz : Nat) (sb : Nat) (sv : Nat) (ml : Int32) (n : Nat) : Met l yJ5_length (ws_ yJ5_length cJ5_length 1 (some .int)) ({ frames := 0, cells := 0, slots := 0, locals := 0 }) (va_Pc [.ref sb] (zP D dA ad (fun q => sz ≤ q) sz (fun H => va_P D vwCl [(sb, .inr (12, [.ref sv, .int (nI (0)), .int ml, .int (nI (n))]))] H))) (zQi (fun rz H => rz = nI (n)) (fun q => sz ≤ q)) (0) (0) (fun q => sz ≤ q) := by
  refine Met.ofW (cc := cJ5_length) (maxL := 1) (ret := (some .int)) (by decide) rfl ?_
  intro p e s m args below meth c s₁ B hml hv
  obtain ⟨rfl, hsz, hC, hP⟩ := hv
  have hx := B.exec
  have hb := B.bytes
  have hr := B.returns
  have hts := atoms_spec (ws := ws_ yJ5_length cJ5_length 1 (some .int)) B.pre
  have hts : ∀ w ∈ lw_all, w.before _ s = true := fun w h => hts w (List.mem_cons_of_mem _ h)
  have hown : s.vm.findClass RJ5 = some m.cls := findClass_of_methodNamed B.named
  have hlocks := B.notSynchronized
  subst hsz
  have hK := hC.K
  have hA : ∀ q : Nat, s.heap.size ≤ q → s.heap.size ≤ q := fun _ h => h
  have hS : va_S (fun q => s.heap.size ≤ q) s.heap s.heap [] := va_S.rf
  have hP : va_P D vwCl [(sb, .inr (12, [.ref sv, .int (nI (0)), .int ml, .int (nI (n))]))] s.heap := hP
  have hl := lv_entry ([.ref sb]) (n := 1) (Nat.le_of_ble_eq_true rfl)
  rw [lg_entry_eq]
  generalize (lg_sl ([.ref sb]) ++ List.replicate (1 - (lg_sl ([.ref sb])).length) Slot.unset).toArray = ls at hl ⊢
  have hl : lv_has ls 1 [(0, .ref sb)] := hl
  refine lv_aload_n hx hb dJ5_length_0 rfl (lv_at hl 0 rfl) ?_
  refine va_get (D := D) (ci := 12) (v := .int (nI (n))) (C := RJ6) (T := TJ6) (N := 4) hx hb hts in_J6 hown hK hP 0 rfl rfl 3 (by decide) (hts _ q272) (fun _ h9 => h9) rfl dJ5_length_1 ?_
  exact z_iret (v := nI (n)) hx hb hr hS (rfl) (by omega) (by omega) dJ5_length_4

set_option maxHeartbeats 4000000 in
set_option maxRecDepth 100000 in
theorem mJ6_length (l : Launch) (D : va_G) (dA : Nat → ClassId) (ad : Nat → Nat) (sz : Nat) (sb : Nat) (sv : Nat) (ml : Int32) (n : Nat) : Met l yJ6_length (ws_ yJ6_length cJ6_length 1 (some .int)) ({ frames := 1, cells := 0, slots := 0, locals := 30 }) (va_Pc [.ref sb] (zP D dA ad (fun q => sz ≤ q) sz (fun H => va_P D vwCl [(sb, .inr (12, [.ref sv, .int (nI (0)), .int ml, .int (nI (n))]))] H))) (zQi (fun rz H => rz = nI (n)) (fun q => sz ≤ q)) (0) (0) (fun q => sz ≤ q) := by
  refine Met.ofW (cc := cJ6_length) (maxL := 1) (ret := (some .int)) (by decide) rfl ?_
  intro p e s m args below meth c s₁ B hml hv
  obtain ⟨rfl, hsz, hC, hP⟩ := hv
  have hx := B.exec
  have hb := B.bytes
  have hr := B.returns
  have hts := atoms_spec (ws := ws_ yJ6_length cJ6_length 1 (some .int)) B.pre
  have hts : ∀ w ∈ lw_all, w.before _ s = true := fun w h => hts w (List.mem_cons_of_mem _ h)
  have hown : s.vm.findClass RJ6 = some m.cls := findClass_of_methodNamed B.named
  have hlocks := B.notSynchronized
  subst hsz
  have hK := hC.K
  have hA : ∀ q : Nat, s.heap.size ≤ q → s.heap.size ≤ q := fun _ h => h
  have hS : va_S (fun q => s.heap.size ≤ q) s.heap s.heap [] := va_S.rf
  have hP : va_P D vwCl [(sb, .inr (12, [.ref sv, .int (nI (0)), .int ml, .int (nI (n))]))] s.heap := hP
  have hl := lv_entry ([.ref sb]) (n := 1) (Nat.le_of_ble_eq_true rfl)
  rw [lg_entry_eq]
  generalize (lg_sl ([.ref sb]) ++ List.replicate (1 - (lg_sl ([.ref sb])).length) Slot.unset).toArray = ls at hl ⊢
  have hl : lv_has ls 1 [(0, .ref sb)] := hl
  refine lv_aload_n hx hb dJ6_length_0 rfl (lv_at hl 0 rfl) ?_
  refine z_cSUi (hC.K.1 12 _ rfl).2 (As := []) (rest := []) ⟨hx, hb, hml, hown, hts⟩ (mJ5_length l D dA ad s.heap.size sb sv ml n) (va_cwSU 0 hts (lw_SU q1047 q1610 q281 q1048 q63 q1049) rfl rfl rfl (by decide +kernel) ⟨Nat.le_of_ble_eq_true rfl, Nat.le_of_ble_eq_true rfl⟩) hC hS (fun _ h => hA _ (Nat.le_trans hS.1 h)) (hP.sub (ws' := [(sb, .inr (12, [.ref sv, .int (nI (0)), .int ml, .int (nI (n))]))]) [0] rfl) (va_recv hK hP (ci := 12) (q0 := 0) rfl rfl) rfl rfl hl.1 (Nat.le_of_ble_eq_true rfl) dJ6_length_1 ⟨Nat.le_of_ble_eq_true rfl, Nat.le_of_ble_eq_true rfl⟩ (fun r_1 H locs hQ hF hS => ?_)
  have hP := va_P.ro hF hP
  obtain rfl : nI (n) = r_1 := hQ.symm
  exact z_iret (v := nI (n)) hx hb hr hS (rfl) (by omega) (by omega) dJ6_length_4

set_option maxHeartbeats 4000000 in
set_option maxRecDepth 100000 in
theorem mJ5_isLatin1 (l : Launch) (D : va_G) (dA : Nat → ClassId) (ad : Nat → Nat) (sz : Nat) (sb : Nat) (sv : Nat) (ml : Int32) (n : Nat) : Met l yJ5_isLatin1 (ws_ yJ5_isLatin1 cJ5_isLatin1 1 (some .boolean)) ({ frames := 0, cells := 0, slots := 0, locals := 0 }) (va_Pc [.ref sb] (zP D dA ad (fun q => sz ≤ q) sz (fun H => va_P D vwCl [(sb, .inr (12, [.ref sv, .int (nI (0)), .int ml, .int (nI (n))]))] H))) (zQi (fun rz H => rz = nI (1)) (fun q => sz ≤ q)) (0) (0) (fun q => sz ≤ q) := by
  refine Met.ofW (cc := cJ5_isLatin1) (maxL := 1) (ret := (some .boolean)) (by decide) rfl ?_
  intro p e s m args below meth c s₁ B hml hv
  obtain ⟨rfl, hsz, hC, hP⟩ := hv
  have hx := B.exec
  have hb := B.bytes
  have hr := B.returns
  have hts := atoms_spec (ws := ws_ yJ5_isLatin1 cJ5_isLatin1 1 (some .boolean)) B.pre
  have hts : ∀ w ∈ lw_all, w.before _ s = true := fun w h => hts w (List.mem_cons_of_mem _ h)
  have hown : s.vm.findClass RJ5 = some m.cls := findClass_of_methodNamed B.named
  have hlocks := B.notSynchronized
  subst hsz
  have hK := hC.K
  have hA : ∀ q : Nat, s.heap.size ≤ q → s.heap.size ≤ q := fun _ h => h
  have hS : va_S (fun q => s.heap.size ≤ q) s.heap s.heap [] := va_S.rf
  have hP : va_P D vwCl [(sb, .inr (12, [.ref sv, .int (nI (0)), .int ml, .int (nI (n))]))] s.heap := hP
  have hl := lv_entry ([.ref sb]) (n := 1) (Nat.le_of_ble_eq_true rfl)
  rw [lg_entry_eq]
  generalize (lg_sl ([.ref sb]) ++ List.replicate (1 - (lg_sl ([.ref sb])).length) Slot.unset).toArray = ls at hl ⊢
  have hl : lv_has ls 1 [(0, .ref sb)] := hl
  refine va_gets (v := .int (nI (1))) hx hb hC.zC hS hown (hts _ q260) (fun _ h9 => h9) dJ5_isLatin1_0 ?_
  refine lv_if_eq (tgt := 17) hx hb dJ5_isLatin1_3 (by decide) (fun c_1 => ?_) (fun c_1 => ?_)
  · exact absurd c_1 (by decide)
  · refine lv_aload_n hx hb dJ5_isLatin1_6 rfl (lv_at hl 0 rfl) ?_
    refine va_get (D := D) (ci := 12) (v := .int (nI (0))) (C := RJ6) (T := TJ6) (N := 4) hx hb hts in_J6 hown hK hP 0 rfl rfl 1 (by decide) (hts _ q270) (fun _ h9 => h9) rfl dJ5_isLatin1_7 ?_
    refine lv_if_ne (tgt := 17) hx hb dJ5_isLatin1_10 (by decide) (fun c_2 => ?_) (fun c_2 => ?_)
    · exact absurd c_2 (by decide)
    · refine lv_iconst (v := nI (1)) hx hb dJ5_isLatin1_13 (by decide) ?_
      refine lv_goto (tgt := 18) hx hb dJ5_isLatin1_14 (by decide) ?_
      exact z_zret (v := nI (1)) hx hb hr (by first | rfl | decide) hS (rfl) (by omega) (by omega) dJ5_isLatin1_18

set_option maxHeartbeats 4000000 in
set_option maxRecDepth 100000 in
theorem mJ13_canEncode_2 (l : Launch) (D : va_G) (dA : Nat → ClassId) (ad : Nat → Nat) (sz : Nat) (k : Nat) (hk : k < 128) : Met l yJ13_canEncode_2 (ws_ yJ13_canEncode_2 cJ13_canEncode_2 1 (some .boolean)) ({ frames := 0, cells := 0, slots := 0, locals := 0 }) (va_Pc [.int (nI (k))] (zP D dA ad (fun q => sz ≤ q) sz (fun H => True))) (zQi (fun rz H => rz = nI (1)) (fun q => sz ≤ q)) (0) (0) (fun q => sz ≤ q) := by
  refine Met.ofW (cc := cJ13_canEncode_2) (maxL := 1) (ret := (some .boolean)) (by decide) rfl ?_
  intro p e s m args below meth c s₁ B hml hv
  obtain ⟨rfl, hsz, hC, hP⟩ := hv
  have hx := B.exec
  have hb := B.bytes
  have hr := B.returns
  have hts := atoms_spec (ws := ws_ yJ13_canEncode_2 cJ13_canEncode_2 1 (some .boolean)) B.pre
  have hts : ∀ w ∈ lw_all, w.before _ s = true := fun w h => hts w (List.mem_cons_of_mem _ h)
  have hown : s.vm.findClass RJ13 = some m.cls := findClass_of_methodNamed B.named
  have hlocks := B.notSynchronized
  subst hsz
  have hK := hC.K
  have hA : ∀ q : Nat, s.heap.size ≤ q → s.heap.size ≤ q := fun _ h => h
  have hS : va_S (fun q => s.heap.size ≤ q) s.heap s.heap [] := va_S.rf
  have hP : va_P D vwCl [] s.heap := va_Pnil
  have hl := lv_entry ([.int (nI (k))]) (n := 1) (Nat.le_of_ble_eq_true rfl)
  rw [lg_entry_eq]
  generalize (lg_sl ([.int (nI (k))]) ++ List.replicate (1 - (lg_sl ([.int (nI (k))])).length) Slot.unset).toArray = ls at hl ⊢
  have hl : lv_has ls 1 [(0, .int (nI (k)))] := hl
  refine lv_iload_n hx hb dJ13_canEncode_2_0 rfl (lv_at hl 0 rfl) ?_
  refine lv_sipush (v := nI (255)) hx hb dJ13_canEncode_2_1 (by decide) ?_
  refine lv_icmp_gt (tgt := 11) hx hb dJ13_canEncode_2_4 (by decide) (fun c_1 => ?_) (fun c_1 => ?_)
  · have c_1 := (nI_ltI (by omega) (by omega)).1 c_1
    omega
  · have c_1 := mt (nI_ltI (by omega) (by omega)).2 c_1
    refine lv_iconst (v := nI (1)) hx hb dJ13_canEncode_2_7 (by decide) ?_
    refine lv_goto (tgt := 12) hx hb dJ13_canEncode_2_8 (by decide) ?_
    exact z_zret (v := nI (1)) hx hb hr (by first | rfl | decide) hS (rfl) (by omega) (by omega) dJ13_canEncode_2_12

set_option maxHeartbeats 4000000 in
set_option maxRecDepth 100000 in
theorem mJ5_newCapacity (l : Launch) (D : va_G) (dA : Nat → ClassId) (ad : Nat → Nat) (sz : Nat) (sb : Nat) (sv : Nat) (ml : Int32) (xn : Int32) (cap : Nat) (g : Nat → Int32) (h2 : cap ≤ 1000) : Met l yJ5_newCapacity (ws_ yJ5_newCapacity cJ5_newCapacity 6 (some .int)) ({ frames := 2, cells := 0, slots := 0, locals := 70 }) (va_Pc [.ref sb, .int (nI (cap + 1))] (zP D dA ad (fun q => sz ≤ q) sz (fun H => va_P D vwCl [(sb, .inr (12, [.ref sv, .int (nI (0)), .int ml, .int xn])), (sv, .inl (dA 2, cap, .inl g))] H))) (zQi (fun rz H => rz = nI (2 * cap + 2)) (fun q => sz ≤ q)) (0) (0) (fun q => sz ≤ q) := by
  refine Met.ofW (cc := cJ5_newCapacity) (maxL := 6) (ret := (some .int)) (by decide) rfl ?_
  intro p e s m args below meth c s₁ B hml hv
  obtain ⟨rfl, hsz, hC, hP⟩ := hv
  have hx := B.exec
  have hb := B.bytes
  have hr := B.returns
  have hts := atoms_spec (ws := ws_ yJ5_newCapacity cJ5_newCapacity 6 (some .int)) B.pre
  have hts : ∀ w ∈ lw_all, w.before _ s = true := fun w h => hts w (List.mem_cons_of_mem _ h)
  have hown : s.vm.findClass RJ5 = some m.cls := findClass_of_methodNamed B.named
  have hlocks := B.notSynchronized
  subst hsz
  have hK := hC.K
  have hA : ∀ q : Nat, s.heap.size ≤ q → s.heap.size ≤ q := fun _ h => h
  have hS : va_S (fun q => s.heap.size ≤ q) s.heap s.heap [] := va_S.rf
  have hP : va_P D vwCl [(sb, .inr (12, [.ref sv, .int (nI (0)), .int ml, .int xn])), (sv, .inl (dA 2, cap, .inl g))] s.heap := hP
  have hl := lv_entry ([.ref sb, .int (nI (cap + 1))]) (n := 6) (Nat.le_of_ble_eq_true rfl)
  rw [lg_entry_eq]
  generalize (lg_sl ([.ref sb, .int (nI (cap + 1))]) ++ List.replicate (6 - (lg_sl ([.ref sb, .int (nI (cap + 1))])).length) Slot.unset).toArray = ls at hl ⊢
  have hl : lv_has ls 6 [(0, .ref sb), (1, .int (nI (cap + 1)))] := hl
  refine lv_aload_n hx hb dJ5_newCapacity_0 rfl (lv_at hl 0 rfl) ?_
  refine va_get (D := D) (ci := 12) (v := .ref sv) (C := RJ6) (T := TJ6) (N := 4) hx hb hts in_J6 hown hK hP 0 rfl rfl 0 (by decide) (hts _ q269) (fun _ h9 => h9) rfl dJ5_newCapacity_1 ?_
  refine va_alen (v := nI (cap)) hx hb hK hP 1 2 rfl rfl rfl dJ5_newCapacity_4 ?_
  refine lv_istore_n (lv' := [(2, .int (nI (cap))), (0, .ref sb), (1, .int (nI (cap + 1)))]) hx hb dJ5_newCapacity_5 rfl hl (by decide) rfl (fun ls hl => ?_)
  refine lv_iload_n hx hb dJ5_newCapacity_6 rfl (lv_at hl 2 rfl) ?_
  refine lv_aload_n hx hb dJ5_newCapacity_7 rfl (lv_at hl 1 rfl) ?_
  refine va_get (D := D) (ci := 12) (v := .int (nI (0))) (C := RJ6) (T := TJ6) (N := 4) hx hb hts in_J6 hown hK hP 0 rfl rfl 1 (by decide) (hts _ q270) (fun _ h9 => h9) rfl dJ5_newCapacity_8 ?_
  refine lv_ishl hx hb dJ5_newCapacity_11 ?_
  refine lv_tope (y := nI (cap + 1)) (shl0) ?_
  refine lv_istore_n (lv' := [(3, .int (nI (cap + 1))), (2, .int (nI (cap))), (0, .ref sb), (1, .int (nI (cap + 1)))]) hx hb dJ5_newCapacity_12 rfl hl (by decide) rfl (fun ls hl => ?_)
  refine lv_iload_n hx hb dJ5_newCapacity_13 rfl (lv_at hl 0 rfl) ?_
  refine lv_iload_n hx hb dJ5_newCapacity_14 rfl (lv_at hl 1 rfl) ?_
  refine lv_isub hx hb dJ5_newCapacity_15 ?_
  refine lv_tope (y := nI ((cap + 1) - cap)) (pk_sub (by omega)) ?_
  refine lv_istore (lv' := [(4, .int (nI ((cap + 1) - cap))), (3, .int (nI (cap + 1))), (2, .int (nI (cap))), (0, .ref sb), (1, .int (nI (cap + 1)))]) hx hb dJ5_newCapacity_16 hl (by decide) rfl (fun ls hl => ?_)
  refine lv_iload_n hx hb dJ5_newCapacity_18 rfl (lv_at hl 2 rfl) ?_
  refine lv_iload hx hb dJ5_newCapacity_19 (lv_at hl 0 rfl) ?_
  refine lv_iload_n hx hb dJ5_newCapacity_21 rfl (lv_at hl 2 rfl) ?_
  refine lv_iconst (v := nI (2)) hx hb dJ5_newCapacity_22 (by decide) ?_
  refine lv_aload_n hx hb dJ5_newCapacity_23 rfl (lv_at hl 3 rfl) ?_
  refine va_get (D := D) (ci := 12) (v := .int (nI (0))) (C := RJ6) (T := TJ6) (N := 4) hx hb hts in_J6 hown hK hP 0 rfl rfl 1 (by decide) (hts _ q270) (fun _ h9 => h9) rfl dJ5_newCapacity_24 ?_
  refine lv_ishl hx hb dJ5_newCapacity_27 ?_
  refine lv_tope (y := nI (2)) (shl0) ?_
  refine lv_iadd hx hb dJ5_newCapacity_28 ?_
  refine lv_tope (y := nI (cap + 2)) (nI_add _ _) ?_
  refine z_cSi (As := [.int (nI (cap)), .int (nI ((cap + 1) - cap)), .int (nI (cap + 2))]) (rest := []) ⟨hx, hb, hml, hown, hts⟩ (mJ10_newLength l D dA ad s.heap.size cap ((cap + 1) - cap) (cap + 2) (by omega) (by omega) (by omega) (by omega)) (va_cwS 3 hts (lw_S q1092 q374 q69 q375) rfl rfl rfl (by decide +kernel) ⟨Nat.le_of_ble_eq_true rfl, Nat.le_of_ble_eq_true rfl⟩) hC hS (fun _ h => hA _ (Nat.le_trans hS.1 h)) trivial rfl rfl hl.1 (Nat.le_of_ble_eq_true rfl) dJ5_newCapacity_29 ⟨Nat.le_of_ble_eq_true rfl, Nat.le_of_ble_eq_true rfl⟩ (fun r_1 H locs hQ hF hS => ?_)
  have hP := va_P.ro hF hP
  obtain rfl : (nI (cap + (if ((cap + 1) - cap) < (cap + 2) then (cap + 2) else ((cap + 1) - cap)))) = r_1 := hQ.symm
  refine lv_tope (y := nI (2 * cap + 2)) (by rw [if_pos (by omega)]; congr 1; omega) ?_
  refine lv_istore (lv' := [(5, .int (nI (2 * cap + 2))), (4, .int (nI ((cap + 1) - cap))), (3, .int (nI (cap + 1))), (2, .int (nI (cap))), (0, .ref sb), (1, .int (nI (cap + 1)))]) hx hb dJ5_newCapacity_32 hl (by decide) rfl (fun ls hl => ?_)
  refine lv_iload hx hb dJ5_newCapacity_34 (lv_at hl 0 rfl) ?_
  refine lv_ldc (v := nI (2147483647)) hx hb hown (hts _ q1093) dJ5_newCapacity_36 ?_
  refine lv_icmp_ne (tgt := 51) hx hb dJ5_newCapacity_38 (by decide) (fun c_2 => ?_) (fun c_2 => ?_)
  · have c_2 := mt (nI_eq (by omega) (by omega)).2 c_2
    refine lv_iload hx hb dJ5_newCapacity_51 (lv_at hl 0 rfl) ?_
    refine lv_aload_n hx hb dJ5_newCapacity_53 rfl (lv_at hl 4 rfl) ?_
    refine va_get (D := D) (ci := 12) (v := .int (nI (0))) (C := RJ6) (T := TJ6) (N := 4) hx hb hts in_J6 hown hK hP 0 rfl rfl 1 (by decide) (hts _ q270) (fun _ h9 => h9) rfl dJ5_newCapacity_54 ?_
    refine lv_ishr hx hb dJ5_newCapacity_57 ?_
    refine lv_tope (y := nI (2 * cap + 2)) (shr0 (by omega)) ?_
    exact z_iret (v := nI (2 * cap + 2)) hx hb hr hS (rfl) (by omega) (by omega) dJ5_newCapacity_58
  · have c_2 := (nI_eq (by omega) (by omega)).1 c_2
    omega

set_option maxHeartbeats 4000000 in
set_option maxRecDepth 100000 in
theorem mJ5_ensureCapacityInternal (l : Launch) (D : va_G) (dA : Nat → ClassId) (ad : Nat → Nat) (sz : Nat) (sb : Nat) (sv : Nat) (ml : Int32) (n : Nat) (cap : Nat) (g : Nat → Int32) (k : Nat) (h1 : k ≤ cap) (h2 : cap ≤ 1000) : Met l yJ5_ensureCapacityInternal (ws_ yJ5_ensureCapacityInternal cJ5_ensureCapacityInternal 3 none) ({ frames := 0, cells := 0, slots := 0, locals := 0 }) (va_Pc [.ref sb, .int (nI (k))] (zP D dA ad (fun q => sz ≤ q) sz (fun H => va_P D vwCl [(sb, .inr (12, [.ref sv, .int (nI (0)), .int ml, .int (nI (n))])), (sv, .inl (dA 2, cap, .inl g))] H))) (zQv (fun H => True) (fun q => sz ≤ q)) (0) (0) (fun q => sz ≤ q) := by
  refine Met.ofW (cc := cJ5_ensureCapacityInternal) (maxL := 3) (ret := none) (by decide) rfl ?_
  intro p e s m args below meth c s₁ B hml hv
  obtain ⟨rfl, hsz, hC, hP⟩ := hv
  have hx := B.exec
  have hb := B.bytes
  have hr := B.returns
  have hts := atoms_spec (ws := ws_ yJ5_ensureCapacityInternal cJ5_ensureCapacityInternal 3 none) B.pre
  have hts : ∀ w ∈ lw_all, w.before _ s = true := fun w h => hts w (List.mem_cons_of_mem _ h)
  have hown : s.vm.findClass RJ5 = some m.cls := findClass_of_methodNamed B.named
  have hlocks := B.notSynchronized
  subst hsz
  have hK := hC.K
  have hA : ∀ q : Nat, s.heap.size ≤ q → s.heap.size ≤ q := fun _ h => h
  have hS : va_S (fun q => s.heap.size ≤ q) s.heap s.heap [] := va_S.rf
  have hP : va_P D vwCl [(sb, .inr (12, [.ref sv, .int (nI (0)), .int ml, .int (nI (n))])), (sv, .inl (dA 2, cap, .inl g))] s.heap := hP
  have hl := lv_entry ([.ref sb, .int (nI (k))]) (n := 3) (Nat.le_of_ble_eq_true rfl)
  rw [lg_entry_eq]
  generalize (lg_sl ([.ref sb, .int (nI (k))]) ++ List.replicate (3 - (lg_sl ([.ref sb, .int (nI (k))])).length) Slot.unset).toArray = ls at hl ⊢
  have hl : lv_has ls 3 [(0, .ref sb), (1, .int (nI (k)))] := hl
  refine lv_aload_n hx hb dJ5_ensureCapacityInternal_0 rfl (lv_at hl 0 rfl) ?_
  refine va_get (D := D) (ci := 12) (v := .ref sv) (C := RJ6) (T := TJ6) (N := 4) hx hb hts in_J6 hown hK hP 0 rfl rfl 0 (by decide) (hts _ q269) (fun _ h9 => h9) rfl dJ5_ensureCapacityInternal_1 ?_
  refine va_alen (v := nI (cap)) hx hb hK hP 1 2 rfl rfl rfl dJ5_ensureCapacityInternal_4 ?_
  refine lv_aload_n hx hb dJ5_ensureCapacityInternal_5 rfl (lv_at hl 0 rfl) ?_
  refine va_get (D := D) (ci := 12) (v := .int (nI (0))) (C := RJ6) (T := TJ6) (N := 4) hx hb hts in_J6 hown hK hP 0 rfl rfl 1 (by decide) (hts _ q270) (fun _ h9 => h9) rfl dJ5_ensureCapacityInternal_6 ?_
  refine lv_ishr hx hb dJ5_ensureCapacityInternal_9 ?_
  refine lv_tope (y := nI (cap)) (shr0 (by omega)) ?_
  refine lv_istore_n (lv' := [(2, .int (nI (cap))), (0, .ref sb), (1, .int (nI (k)))]) hx hb dJ5_ensureCapacityInternal_10 rfl hl (by decide) rfl (fun ls hl => ?_)
  refine lv_iload_n hx hb dJ5_ensureCapacityInternal_11 rfl (lv_at hl 2 rfl) ?_
  refine lv_iload_n hx hb dJ5_ensureCapacityInternal_12 rfl (lv_at hl 0 rfl) ?_
  refine lv_isub hx hb dJ5_ensureCapacityInternal_13 ?_
  refine lv_if_le (tgt := 38) hx hb dJ5_ensureCapacityInternal_14 (by decide) (fun c_1 => ?_) (fun c_1 => ?_)
  · exact z_vret hx hb hr hS (trivial) (by omega) (by omega) dJ5_ensureCapacityInternal_38
  · exact absurd (subI_le (by omega) (by omega)) c_1

set_option maxHeartbeats 4000000 in
set_option maxRecDepth 100000 in
theorem mJ5_ensureC (l : Launch) (D : va_G) (dA : Nat → ClassId) (ad : Nat → Nat) (A : Nat → Prop) (sz : Nat) (sb : Nat) (sv : Nat) (ml : Int32) (cap : Nat) (g : Nat → Int32) (hA : ∀ q, sz ≤ q → A q) (h2 : cap ≤ 1000) (hG : ByG g cap) (hD : va_D A [(sb, .inr (12, [.ref sv, .int (nI (0)), .int ml, .int (nI (cap))])), (sv, .inl (dA 2, cap, .inl g))]) : Met l yJ5_ensureCapacityInternal (ws_ yJ5_ensureCapacityInternal cJ5_ensureCapacityInternal 3 none) ({ frames := 3, cells := 1, slots := 2 * cap + 2, locals := 110 }) (va_Pc [.ref sb, .int (nI (cap + 1))] (zP D dA ad A sz (fun H => va_P D vwCl [(sb, .inr (12, [.ref sv, .int (nI (0)), .int ml, .int (nI (cap))])), (sv, .inl (dA 2, cap, .inl g))] H))) (zQv (fun H => ∃ sq : Nat, True ∧ va_P D vwCl [(sb, .inr (12, [.ref sq, .int (nI (0)), .int ml, .int (nI (cap))])), (sq, .inl (dA 2, 2 * cap + 2, .inl (va_cpy g (fun _ => 0) 0 0 cap)))] H ∧ va_D A [(sb, .inr (12, [.ref sq, .int (nI (0)), .int ml, .int (nI (cap))])), (sq, .inl (dA 2, 2 * cap + 2, .inl (va_cpy g (fun _ => 0) 0 0 cap)))]) A) (1) (2 * cap + 2) A := by
  refine Met.ofW (cc := cJ5_ensureCapacityInternal) (maxL := 3) (ret := none) (by decide) rfl ?_
  intro p e s m args below meth c s₁ B hml hv
  obtain ⟨rfl, hsz, hC, hP⟩ := hv
  have hx := B.exec
  have hb := B.bytes
  have hr := B.returns
  have hts := atoms_spec (ws := ws_ yJ5_ensureCapacityInternal cJ5_ensureCapacityInternal 3 none) B.pre
  have hts : ∀ w ∈ lw_all, w.before _ s = true := fun w h => hts w (List.mem_cons_of_mem _ h)
  have hown : s.vm.findClass RJ5 = some m.cls := findClass_of_methodNamed B.named
  have hlocks := B.notSynchronized
  subst hsz
  have hK := hC.K
  have hS : va_S A s.heap s.heap [] := va_S.rf
  have hP : va_P D vwCl [(sb, .inr (12, [.ref sv, .int (nI (0)), .int ml, .int (nI (cap))])), (sv, .inl (dA 2, cap, .inl g))] s.heap := hP
  have hl := lv_entry ([.ref sb, .int (nI (cap + 1))]) (n := 3) (Nat.le_of_ble_eq_true rfl)
  rw [lg_entry_eq]
  generalize (lg_sl ([.ref sb, .int (nI (cap + 1))]) ++ List.replicate (3 - (lg_sl ([.ref sb, .int (nI (cap + 1))])).length) Slot.unset).toArray = ls at hl ⊢
  have hl : lv_has ls 3 [(0, .ref sb), (1, .int (nI (cap + 1)))] := hl
  refine lv_aload_n hx hb dJ5_ensureCapacityInternal_0 rfl (lv_at hl 0 rfl) ?_
  refine va_get (D := D) (ci := 12) (v := .ref sv) (C := RJ6) (T := TJ6) (N := 4) hx hb hts in_J6 hown hK hP 0 rfl rfl 0 (by decide) (hts _ q269) (fun _ h9 => h9) rfl dJ5_ensureCapacityInternal_1 ?_
  refine va_alen (v := nI (cap)) hx hb hK hP 1 2 rfl rfl rfl dJ5_ensureCapacityInternal_4 ?_
  refine lv_aload_n hx hb dJ5_ensureCapacityInternal_5 rfl (lv_at hl 0 rfl) ?_
  refine va_get (D := D) (ci := 12) (v := .int (nI (0))) (C := RJ6) (T := TJ6) (N := 4) hx hb hts in_J6 hown hK hP 0 rfl rfl 1 (by decide) (hts _ q270) (fun _ h9 => h9) rfl dJ5_ensureCapacityInternal_6 ?_
  refine lv_ishr hx hb dJ5_ensureCapacityInternal_9 ?_
  refine lv_tope (y := nI (cap)) (shr0 (by omega)) ?_
  refine lv_istore_n (lv' := [(2, .int (nI (cap))), (0, .ref sb), (1, .int (nI (cap + 1)))]) hx hb dJ5_ensureCapacityInternal_10 rfl hl (by decide) rfl (fun ls hl => ?_)
  refine lv_iload_n hx hb dJ5_ensureCapacityInternal_11 rfl (lv_at hl 2 rfl) ?_
  refine lv_iload_n hx hb dJ5_ensureCapacityInternal_12 rfl (lv_at hl 0 rfl) ?_
  refine lv_isub hx hb dJ5_ensureCapacityInternal_13 ?_
  refine lv_tope (y := nI ((cap + 1) - cap)) (pk_sub (by omega)) ?_
  refine lv_if_le (tgt := 38) hx hb dJ5_ensureCapacityInternal_14 (by decide) (fun c_1 => ?_) (fun c_1 => ?_)
  · exact absurd ((nI_leI (by omega) (by omega)).1 (show nI _ ≤ nI 0 from c_1)) (by omega)
  · refine lv_aload_n hx hb dJ5_ensureCapacityInternal_17 rfl (lv_at hl 1 rfl) ?_
    refine lv_aload_n hx hb dJ5_ensureCapacityInternal_18 rfl (lv_at hl 1 rfl) ?_
    refine va_get (D := D) (ci := 12) (v := .ref sv) (C := RJ6) (T := TJ6) (N := 4) hx hb hts in_J6 hown hK hP 0 rfl rfl 0 (by decide) (hts _ q269) (fun _ h9 => h9) rfl dJ5_ensureCapacityInternal_19 ?_
    refine lv_aload_n hx hb dJ5_ensureCapacityInternal_22 rfl (lv_at hl 1 rfl) ?_
    refine lv_iload_n hx hb dJ5_ensureCapacityInternal_23 rfl (lv_at hl 2 rfl) ?_
    refine z_cUi (As := [.int (nI (cap + 1))]) (rest := [.ref sv, .ref sb]) ⟨hx, hb, hml, hown, hts⟩ (mJ5_newCapacity l D dA ad s.heap.size sb sv ml (nI (cap)) cap g (by omega)) (z_cwU 1 hts q1088 q1613 q1090 q63 q1091 (va_Nw.use rfl (Cx.nX hC (List.mem_of_getElem? (i := 1) rfl))) rfl rfl rfl (by decide +kernel) ⟨Nat.le_of_ble_eq_true rfl, Nat.le_of_ble_eq_true rfl⟩) hC hS (fun _ h => hA _ (Nat.le_trans hS.1 h)) (hP.sub (ws' := [(sb, .inr (12, [.ref sv, .int (nI (0)), .int ml, .int (nI (cap))])), (sv, .inl (dA 2, cap, .inl g))]) [0, 1] rfl) (va_recv hK hP (ci := 12) (q0 := 0) rfl rfl) rfl rfl hl.1 (Nat.le_of_ble_eq_true rfl) dJ5_ensureCapacityInternal_24 ⟨by first | exact Nat.le_of_ble_eq_true rfl | (show _ ≤ _; simp only [headSpec]; omega), by first | exact Nat.le_of_ble_eq_true rfl | (show _ ≤ _; simp only [headSpec]; omega)⟩ (fun r_2 H locs hQ hF hS => ?_)
    have hP := va_P.ro hF hP
    obtain rfl : nI (2 * cap + 2) = r_2 := hQ.symm
    refine lv_aload_n hx hb dJ5_ensureCapacityInternal_27 rfl (lv_at hl 1 rfl) ?_
    refine va_get (D := D) (ci := 12) (v := .int (nI (0))) (C := RJ6) (T := TJ6) (N := 4) hx hb hts in_J6 hown hK hP 0 rfl rfl 1 (by decide) (hts _ q270) (fun _ h9 => h9) rfl dJ5_ensureCapacityInternal_28 ?_
    refine lv_ishl hx hb dJ5_ensureCapacityInternal_31 ?_
    refine lv_tope (y := nI (2 * cap + 2)) (shl0) ?_
    have hSo := hS
    refine z_cSr (As := [.ref sv, .int (nI (2 * cap + 2))]) (rest := [.ref sb]) ⟨hx, hb, hml, hown, hts⟩ (mJ12_copyOf_4 l D dA ad H.size sv cap g (2 * cap + 2) (by omega) (by omega) (hG)) (va_cwS 2 hts (lw_S q1094 q1095 q71 q1096) rfl rfl rfl (by decide +kernel) ⟨Nat.le_of_ble_eq_true rfl, Nat.le_of_ble_eq_true rfl⟩) hC hS (fun _ h => hA _ (Nat.le_trans hS.1 h)) (hP.sub (ws' := [(sv, .inl (dA 2, cap, .inl g))]) [1] rfl) rfl rfl hl.1 (Nat.le_of_ble_eq_true rfl) dJ5_ensureCapacityInternal_32 ⟨by first | exact Nat.le_of_ble_eq_true rfl | (show _ ≤ _; simp only [headSpec]; omega), by first | exact Nat.le_of_ble_eq_true rfl | (show _ ≤ _; simp only [headSpec]; omega)⟩ (fun r_3 H locs hQ hF hS => ?_)
    obtain ⟨hQ, hP1, hD1⟩ := hQ
    obtain ⟨hP, hD⟩ := z_addnew (hA_up hA hSo) hP hD hF hP1 hD1
    have hP : va_P D vwCl [(sb, .inr (12, [.ref sv, .int (nI (0)), .int ml, .int (nI (cap))])), (sv, .inl (dA 2, cap, .inl g)), (r_3, .inl (dA 2, (2 * cap + 2), .inl (va_cpy g (fun _ => 0) 0 0 cap)))] H := hP
    have hD : va_D A [(sb, .inr (12, [.ref sv, .int (nI (0)), .int ml, .int (nI (cap))])), (sv, .inl (dA 2, cap, .inl g)), (r_3, .inl (dA 2, (2 * cap + 2), .inl (va_cpy g (fun _ => 0) 0 0 cap)))] := hD
    refine va_put (D := D) (ci := 12) (v := .ref r_3) (ty := .array .byte) (C := RJ6) (T := TJ6) (N := 4) hx hb hts in_J6 tyJ6 tyJ6_ok nmJ6 hown hK hP hD hS 0 rfl rfl 0 (by decide) (hts _ q269) (fun _ h9 => h9) rfl (by decide +kernel) rfl rfl (Nat.le_of_ble_eq_true rfl) dJ5_ensureCapacityInternal_35 (fun H locs hP hD hS => ?_)
    have hP : va_P D vwCl [(sb, .inr (12, [.ref r_3, .int (nI (0)), .int ml, .int (nI (cap))])), (sv, .inl (dA 2, cap, .inl g)), (r_3, .inl (dA 2, (2 * cap + 2), .inl (va_cpy g (fun _ => 0) 0 0 cap)))] H := hP
    have hD : va_D A [(sb, .inr (12, [.ref r_3, .int (nI (0)), .int ml, .int (nI (cap))])), (sv, .inl (dA 2, cap, .inl g)), (r_3, .inl (dA 2, (2 * cap + 2), .inl (va_cpy g (fun _ => 0) 0 0 cap)))] := hD
    exact z_vret hx hb hr hS (⟨r_3, trivial, hP.sub [0, 2] rfl, hD.sub [0, 2] (by decide) rfl⟩) (by omega) (by omega) dJ5_ensureCapacityInternal_38

set_option maxHeartbeats 4000000 in
set_option maxRecDepth 100000 in
theorem mJ5_append (l : Launch) (D : va_G) (dA : Nat → ClassId) (ad : Nat → Nat) (A : Nat → Prop) (sz : Nat) (sb : Nat) (sv : Nat) (ml : Int32) (n : Nat) (cap : Nat) (g : Nat → Int32) (k : Nat) (hA : ∀ q, sz ≤ q → A q) (h1 : n + 1 ≤ cap) (h2 : cap ≤ 1000) (hk : k < 128) (hD : va_D A [(sb, .inr (12, [.ref sv, .int (nI (0)), .int ml, .int (nI (n))])), (sv, .inl (dA 2, cap, .inl g))]) : Met l yJ5_append (ws_ yJ5_append cJ5_append 2 (some (.object "java/lang/AbstractStringBuilder"))) ({ frames := 2, cells := 0, slots := 0, locals := 60 }) (va_Pc [.ref sb, .int (nI (k))] (zP D dA ad A sz (fun H => va_P D vwCl [(sb, .inr (12, [.ref sv, .int (nI (0)), .int ml, .int (nI (n))])), (sv, .inl (dA 2, cap, .inl g))] H))) (zQr (fun rz H => rz = sb ∧ va_P D vwCl [(sb, .inr (12, [.ref sv, .int (nI (0)), .int ml, .int (nI (n + 1))])), (sv, .inl (dA 2, cap, .inl (upd g n (nI (k)))))] H) A) (0) (0) A := by
  refine Met.ofW (cc := cJ5_append) (maxL := 2) (ret := (some (.object "java/lang/AbstractStringBuilder"))) (by decide) rfl ?_
  intro p e s m args below meth c s₁ B hml hv
  obtain ⟨rfl, hsz, hC, hP⟩ := hv
  have hx := B.exec
  have hb := B.bytes
  have hr := B.returns
  have hts := atoms_spec (ws := ws_ yJ5_append cJ5_append 2 (some (.object "java/lang/AbstractStringBuilder"))) B.pre
  have hts : ∀ w ∈ lw_all, w.before _ s = true := fun w h => hts w (List.mem_cons_of_mem _ h)
  have hown : s.vm.findClass RJ5 = some m.cls := findClass_of_methodNamed B.named
  have hlocks := B.notSynchronized
  subst hsz
  have hK := hC.K
  have hS : va_S A s.heap s.heap [] := va_S.rf
  have hP : va_P D vwCl [(sb, .inr (12, [.ref sv, .int (nI (0)), .int ml, .int (nI (n))])), (sv, .inl (dA 2, cap, .inl g))] s.heap := hP
  have hl := lv_entry ([.ref sb, .int (nI (k))]) (n := 2) (Nat.le_of_ble_eq_true rfl)
  rw [lg_entry_eq]
  generalize (lg_sl ([.ref sb, .int (nI (k))]) ++ List.replicate (2 - (lg_sl ([.ref sb, .int (nI (k))])).length) Slot.unset).toArray = ls at hl ⊢
  have hl : lv_has ls 2 [(0, .ref sb), (1, .int (nI (k)))] := hl
  refine lv_aload_n hx hb dJ5_append_0 rfl (lv_at hl 0 rfl) ?_
  refine lv_aload_n hx hb dJ5_append_1 rfl (lv_at hl 0 rfl) ?_
  refine va_get (D := D) (ci := 12) (v := .int (nI (n))) (C := RJ6) (T := TJ6) (N := 4) hx hb hts in_J6 hown hK hP 0 rfl rfl 3 (by decide) (hts _ q272) (fun _ h9 => h9) rfl dJ5_append_2 ?_
  refine lv_iconst (v := nI (1)) hx hb dJ5_append_5 (by decide) ?_
  refine lv_iadd hx hb dJ5_append_6 ?_
  refine lv_tope (y := nI (n + 1)) (nI_add _ _) ?_
  refine z_cUv (As := [.int (nI (n + 1))]) (rest := []) ⟨hx, hb, hml, hown, hts⟩ (mJ5_ensureCapacityInternal l D dA ad s.heap.size sb sv ml n cap g (n + 1) (by omega) (by omega)) (z_cwU 1 hts q1084 q1612 q1086 q63 q1087 (va_Nw.use rfl (Cx.nX hC (List.mem_of_getElem? (i := 0) rfl))) rfl rfl rfl (by decide +kernel) ⟨Nat.le_of_ble_eq_true rfl, Nat.le_of_ble_eq_true rfl⟩) hC hS (fun _ h => hA _ (Nat.le_trans hS.1 h)) (hP.sub (ws' := [(sb, .inr (12, [.ref sv, .int (nI (0)), .int ml, .int (nI (n))])), (sv, .inl (dA 2, cap, .inl g))]) [0, 1] rfl) (va_recv hK hP (ci := 12) (q0 := 0) rfl rfl) rfl rfl hl.1 (Nat.le_of_ble_eq_true rfl) dJ5_append_7 ⟨Nat.le_of_ble_eq_true rfl, Nat.le_of_ble_eq_true rfl⟩ (fun H locs hQ hF hS => ?_)
  have hP := va_P.ro hF hP
  refine lv_aload_n hx hb dJ5_append_10 rfl (lv_at hl 0 rfl) ?_
  refine z_cUi (As := []) (rest := []) ⟨hx, hb, hml, hown, hts⟩ (mJ5_isLatin1 l D dA ad H.size sb sv ml n) (z_cwU 0 hts q1102 q1104 q1103 q63 q1106 (hts _ q1105) rfl rfl rfl (by decide +kernel) ⟨Nat.le_of_ble_eq_true rfl, Nat.le_of_ble_eq_true rfl⟩) hC hS (fun _ h => hA _ (Nat.le_trans hS.1 h)) (hP.sub (ws' := [(sb, .inr (12, [.ref sv, .int (nI (0)), .int ml, .int (nI (n))]))]) [0] rfl) (va_recv hK hP (ci := 12) (q0 := 0) rfl rfl) rfl rfl hl.1 (Nat.le_of_ble_eq_true rfl) dJ5_append_11 ⟨Nat.le_of_ble_eq_true rfl, Nat.le_of_ble_eq_true rfl⟩ (fun r_2 H locs hQ hF hS => ?_)
  have hP := va_P.ro hF hP
  obtain rfl : nI (1) = r_2 := hQ.symm
  refine lv_if_eq (tgt := 45) hx hb dJ5_append_14 (by decide) (fun c_3 => ?_) (fun c_3 => ?_)
  · exact absurd c_3 (by decide)
  · refine lv_iload_n hx hb dJ5_append_17 rfl (lv_at hl 1 rfl) ?_
    refine z_cSi (As := [.int (nI (k))]) (rest := []) ⟨hx, hb, hml, hown, hts⟩ (mJ13_canEncode_2 l D dA ad H.size k (by omega)) (va_cwS 1 hts (lw_S q1107 q1108 q73 q1109) rfl rfl rfl (by decide +kernel) ⟨Nat.le_of_ble_eq_true rfl, Nat.le_of_ble_eq_true rfl⟩) hC hS (fun _ h => hA _ (Nat.le_trans hS.1 h)) trivial rfl rfl hl.1 (Nat.le_of_ble_eq_true rfl) dJ5_append_18 ⟨Nat.le_of_ble_eq_true rfl, Nat.le_of_ble_eq_true rfl⟩ (fun r_4 H locs hQ hF hS => ?_)
    have hP := va_P.ro hF hP
    obtain rfl : nI (1) = r_4 := hQ.symm
    refine lv_if_eq (tgt := 45) hx hb dJ5_append_21 (by decide) (fun c_5 => ?_) (fun c_5 => ?_)
    · exact absurd c_5 (by decide)
    · refine lv_aload_n hx hb dJ5_append_24 rfl (lv_at hl 0 rfl) ?_
      refine va_get (D := D) (ci := 12) (v := .ref sv) (C := RJ6) (T := TJ6) (N := 4) hx hb hts in_J6 hown hK hP 0 rfl rfl 0 (by decide) (hts _ q269) (fun _ h9 => h9) rfl dJ5_append_25 ?_
      refine lv_aload_n hx hb dJ5_append_28 rfl (lv_at hl 0 rfl) ?_
      refine lv_dup hx hb dJ5_append_29 rfl ?_
      refine va_get (D := D) (ci := 12) (v := .int (nI (n))) (C := RJ6) (T := TJ6) (N := 4) hx hb hts in_J6 hown hK hP 0 rfl rfl 3 (by decide) (hts _ q272) (fun _ h9 => h9) rfl dJ5_append_30 ?_
      refine lv_dup_x1 hx hb dJ5_append_33 rfl rfl ?_
      refine lv_iconst (v := nI (1)) hx hb dJ5_append_34 (by decide) ?_
      refine lv_iadd hx hb dJ5_append_35 ?_
      refine lv_tope (y := nI (n + 1)) (nI_add _ _) ?_
      refine va_put (D := D) (ci := 12) (v := .int (nI (n + 1))) (ty := .int) (C := RJ6) (T := TJ6) (N := 4) hx hb hts in_J6 tyJ6 tyJ6_ok nmJ6 hown hK hP hD hS 0 rfl rfl 3 (by decide) (hts _ q272) (fun _ h9 => h9) rfl (by decide +kernel) rfl rfl (Nat.le_of_ble_eq_true rfl) dJ5_append_36 (fun H locs hP hD hS => ?_)
      have hP : va_P D vwCl [(sb, .inr (12, [.ref sv, .int (nI (0)), .int ml, .int (nI (n + 1))])), (sv, .inl (dA 2, cap, .inl g))] H := hP
      have hD : va_D A [(sb, .inr (12, [.ref sv, .int (nI (0)), .int ml, .int (nI (n + 1))])), (sv, .inl (dA 2, cap, .inl g))] := hD
      refine lv_iload_n hx hb dJ5_append_39 rfl (lv_at hl 1 rfl) ?_
      refine lv_i2b (v := nI (k)) hx hb dJ5_append_40 (i2b_n hk) ?_
      refine va_bast hx hb hK hP hD hS 1 2 rfl rfl (vp_in_nI (by omega) (by omega)) dJ5_append_41 (fun H locs hP hD hS => ?_)
      rw [nI_clamp (by omega)] at hP hD
      rw [show vp_nar .byte (nI (k)) = (nI (k)) from bynar hk] at hP hD
      have hP : va_P D vwCl [(sb, .inr (12, [.ref sv, .int (nI (0)), .int ml, .int (nI (n + 1))])), (sv, .inl (dA 2, cap, .inl (upd g n (nI (k)))))] H := hP
      have hD : va_D A [(sb, .inr (12, [.ref sv, .int (nI (0)), .int ml, .int (nI (n + 1))])), (sv, .inl (dA 2, cap, .inl (upd g n (nI (k)))))] := hD
      refine lv_goto (tgt := 75) hx hb dJ5_append_42 (by decide) ?_
      refine lv_aload_n hx hb dJ5_append_75 rfl (lv_at hl 0 rfl) ?_
      exact z_aret (v := sb) hx hb hr (Or.inl ⟨_, rfl⟩) hS (⟨rfl, hP⟩) (by omega) (by omega) dJ5_append_76

set_option maxHeartbeats 4000000 in
set_option maxRecDepth 100000 in
theorem mJ5_appendC (l : Launch) (D : va_G) (dA : Nat → ClassId) (ad : Nat → Nat) (A : Nat → Prop) (sz : Nat) (sb : Nat) (sv : Nat) (ml : Int32) (cap : Nat) (g : Nat → Int32) (k : Nat) (hA : ∀ q, sz ≤ q → A q) (h2 : cap ≤ 1000) (hG : ByG g cap) (hk : k < 128) (hD : va_D A [(sb, .inr (12, [.ref sv, .int (nI (0)), .int ml, .int (nI (cap))])), (sv, .inl (dA 2, cap, .inl g))]) : Met l yJ5_append (ws_ yJ5_append cJ5_append 2 (some (.object "java/lang/AbstractStringBuilder"))) ({ frames := 4, cells := 1, slots := 2 * cap + 2, locals := 140 }) (va_Pc [.ref sb, .int (nI (k))] (zP D dA ad A sz (fun H => va_P D vwCl [(sb, .inr (12, [.ref sv, .int (nI (0)), .int ml, .int (nI (cap))])), (sv, .inl (dA 2, cap, .inl g))] H))) (zQr (fun rz H => ∃ sq : Nat, rz = sb ∧ va_P D vwCl [(sb, .inr (12, [.ref sq, .int (nI (0)), .int ml, .int (nI (cap + 1))])), (sq, .inl (dA 2, 2 * cap + 2, .inl (upd (va_cpy g (fun _ => 0) 0 0 cap) cap (nI (k)))))] H ∧ va_D A [(sb, .inr (12, [.ref sq, .int (nI (0)), .int ml, .int (nI (cap + 1))])), (sq, .inl (dA 2, 2 * cap + 2, .inl (upd (va_cpy g (fun _ => 0) 0 0 cap) cap (nI (k)))))]) A) (1) (2 * cap + 2) A := by
  refine Met.ofW (cc := cJ5_append) (maxL := 2) (ret := (some (.object "java/lang/AbstractStringBuilder"))) (by decide) rfl ?_
  intro p e s m args below meth c s₁ B hml hv
  obtain ⟨rfl, hsz, hC, hP⟩ := hv
  have hx := B.exec
  have hb := B.bytes
  have hr := B.returns
  have hts := atoms_spec (ws := ws_ yJ5_append cJ5_append 2 (some (.object "java/lang/AbstractStringBuilder"))) B.pre
  have hts : ∀ w ∈ lw_all, w.before _ s = true := fun w h => hts w (List.mem_cons_of_mem _ h)
  have hown : s.vm.findClass RJ5 = some m.cls := findClass_of_methodNamed B.named
  have hlocks := B.notSynchronized
  subst hsz
  have hK := hC.K
  have hS : va_S A s.heap s.heap [] := va_S.rf
  have hP : va_P D vwCl [(sb, .inr (12, [.ref sv, .int (nI (0)), .int ml, .int (nI (cap))])), (sv, .inl (dA 2, cap, .inl g))] s.heap := hP
  have hl := lv_entry ([.ref sb, .int (nI (k))]) (n := 2) (Nat.le_of_ble_eq_true rfl)
  rw [lg_entry_eq]
  generalize (lg_sl ([.ref sb, .int (nI (k))]) ++ List.replicate (2 - (lg_sl ([.ref sb, .int (nI (k))])).length) Slot.unset).toArray = ls at hl ⊢
  have hl : lv_has ls 2 [(0, .ref sb), (1, .int (nI (k)))] := hl
  refine lv_aload_n hx hb dJ5_append_0 rfl (lv_at hl 0 rfl) ?_
  refine lv_aload_n hx hb dJ5_append_1 rfl (lv_at hl 0 rfl) ?_
  refine va_get (D := D) (ci := 12) (v := .int (nI (cap))) (C := RJ6) (T := TJ6) (N := 4) hx hb hts in_J6 hown hK hP 0 rfl rfl 3 (by decide) (hts _ q272) (fun _ h9 => h9) rfl dJ5_append_2 ?_
  refine lv_iconst (v := nI (1)) hx hb dJ5_append_5 (by decide) ?_
  refine lv_iadd hx hb dJ5_append_6 ?_
  refine lv_tope (y := nI (cap + 1)) (nI_add _ _) ?_
  refine z_cUv (As := [.int (nI (cap + 1))]) (rest := []) ⟨hx, hb, hml, hown, hts⟩ (mJ5_ensureC l D dA ad A s.heap.size sb sv ml cap g (hA_up hA hS) (by omega) (hG) (hD.sub [0, 1] (by decide) rfl)) (z_cwU 1 hts q1084 q1612 q1086 q63 q1087 (va_Nw.use rfl (Cx.nX hC (List.mem_of_getElem? (i := 0) rfl))) rfl rfl rfl (by decide +kernel) ⟨Nat.le_of_ble_eq_true rfl, Nat.le_of_ble_eq_true rfl⟩) hC hS (fun _ h => h) (hP.sub (ws' := [(sb, .inr (12, [.ref sv, .int (nI (0)), .int ml, .int (nI (cap))])), (sv, .inl (dA 2, cap, .inl g))]) [0, 1] rfl) (va_recv hK hP (ci := 12) (q0 := 0) rfl rfl) rfl rfl hl.1 (Nat.le_of_ble_eq_true rfl) dJ5_append_7 ⟨by first | exact Nat.le_of_ble_eq_true rfl | (show _ ≤ _; simp only [headSpec]; omega), by first | exact Nat.le_of_ble_eq_true rfl | (show _ ≤ _; simp only [headSpec]; omega)⟩ (fun H locs hQ hF hS => ?_)
  obtain ⟨sq_2, hQ, hP1, hD1⟩ := hQ
  have hP := hP1
  have hD := hD1
  have hP : va_P D vwCl [(sb, .inr (12, [.ref sq_2, .int (nI (0)), .int ml, .int (nI (cap))])), (sq_2, .inl (dA 2, 2 * cap + 2, .inl (va_cpy g (fun _ => 0) 0 0 cap)))] H := hP
  have hD : va_D A [(sb, .inr (12, [.ref sq_2, .int (nI (0)), .int ml, .int (nI (cap))])), (sq_2, .inl (dA 2, 2 * cap + 2, .inl (va_cpy g (fun _ => 0) 0 0 cap)))] := hD
  refine lv_aload_n hx hb dJ5_append_10 rfl (lv_at hl 0 rfl) ?_
  refine z_cUi (As := []) (rest := []) ⟨hx, hb, hml, hown, hts⟩ (mJ5_isLatin1 l D dA ad H.size sb sq_2 ml cap) (z_cwU 0 hts q1102 q1104 q1103 q63 q1106 (hts _ q1105) rfl rfl rfl (by decide +kernel) ⟨Nat.le_of_ble_eq_true rfl, Nat.le_of_ble_eq_true rfl⟩) hC hS (fun _ h => hA _ (Nat.le_trans hS.1 h)) (hP.sub (ws' := [(sb, .inr (12, [.ref sq_2, .int (nI (0)), .int ml, .int (nI (cap))]))]) [0] rfl) (va_recv hK hP (ci := 12) (q0 := 0) rfl rfl) rfl rfl hl.1 (Nat.le_of_ble_eq_true rfl) dJ5_append_11 ⟨by first | exact Nat.le_of_ble_eq_true rfl | (show _ ≤ _; simp only [headSpec]; omega), by first | exact Nat.le_of_ble_eq_true rfl | (show _ ≤ _; simp only [headSpec]; omega)⟩ (fun r_3 H locs hQ hF hS => ?_)
  have hP := va_P.ro hF hP
  obtain rfl : nI (1) = r_3 := hQ.symm
  refine lv_if_eq (tgt := 45) hx hb dJ5_append_14 (by decide) (fun c_4 => ?_) (fun c_4 => ?_)
  · exact absurd c_4 (by decide)
  · refine lv_iload_n hx hb dJ5_append_17 rfl (lv_at hl 1 rfl) ?_
    refine z_cSi (As := [.int (nI (k))]) (rest := []) ⟨hx, hb, hml, hown, hts⟩ (mJ13_canEncode_2 l D dA ad H.size k (by omega)) (va_cwS 1 hts (lw_S q1107 q1108 q73 q1109) rfl rfl rfl (by decide +kernel) ⟨Nat.le_of_ble_eq_true rfl, Nat.le_of_ble_eq_true rfl⟩) hC hS (fun _ h => hA _ (Nat.le_trans hS.1 h)) trivial rfl rfl hl.1 (Nat.le_of_ble_eq_true rfl) dJ5_append_18 ⟨by first | exact Nat.le_of_ble_eq_true rfl | (show _ ≤ _; simp only [headSpec]; omega), by first | exact Nat.le_of_ble_eq_true rfl | (show _ ≤ _; simp only [headSpec]; omega)⟩ (fun r_5 H locs hQ hF hS => ?_)
    have hP := va_P.ro hF hP
    obtain rfl : nI (1) = r_5 := hQ.symm
    refine lv_if_eq (tgt := 45) hx hb dJ5_append_21 (by decide) (fun c_6 => ?_) (fun c_6 => ?_)
    · exact absurd c_6 (by decide)
    · refine lv_aload_n hx hb dJ5_append_24 rfl (lv_at hl 0 rfl) ?_
      refine va_get (D := D) (ci := 12) (v := .ref sq_2) (C := RJ6) (T := TJ6) (N := 4) hx hb hts in_J6 hown hK hP 0 rfl rfl 0 (by decide) (hts _ q269) (fun _ h9 => h9) rfl dJ5_append_25 ?_
      refine lv_aload_n hx hb dJ5_append_28 rfl (lv_at hl 0 rfl) ?_
      refine lv_dup hx hb dJ5_append_29 rfl ?_
      refine va_get (D := D) (ci := 12) (v := .int (nI (cap))) (C := RJ6) (T := TJ6) (N := 4) hx hb hts in_J6 hown hK hP 0 rfl rfl 3 (by decide) (hts _ q272) (fun _ h9 => h9) rfl dJ5_append_30 ?_
      refine lv_dup_x1 hx hb dJ5_append_33 rfl rfl ?_
      refine lv_iconst (v := nI (1)) hx hb dJ5_append_34 (by decide) ?_
      refine lv_iadd hx hb dJ5_append_35 ?_
      refine lv_tope (y := nI (cap + 1)) (nI_add _ _) ?_
      refine va_put (D := D) (ci := 12) (v := .int (nI (cap + 1))) (ty := .int) (C := RJ6) (T := TJ6) (N := 4) hx hb hts in_J6 tyJ6 tyJ6_ok nmJ6 hown hK hP hD hS 0 rfl rfl 3 (by decide) (hts _ q272) (fun _ h9 => h9) rfl (by decide +kernel) rfl rfl (Nat.le_of_ble_eq_true rfl) dJ5_append_36 (fun H locs hP hD hS => ?_)
      have hP : va_P D vwCl [(sb, .inr (12, [.ref sq_2, .int (nI (0)), .int ml, .int (nI (cap + 1))])), (sq_2, .inl (dA 2, 2 * cap + 2, .inl (va_cpy g (fun _ => 0) 0 0 cap)))] H := hP
      have hD : va_D A [(sb, .inr (12, [.ref sq_2, .int (nI (0)), .int ml, .int (nI (cap + 1))])), (sq_2, .inl (dA 2, 2 * cap + 2, .inl (va_cpy g (fun _ => 0) 0 0 cap)))] := hD
      refine lv_iload_n hx hb dJ5_append_39 rfl (lv_at hl 1 rfl) ?_
      refine lv_i2b (v := nI (k)) hx hb dJ5_append_40 (i2b_n hk) ?_
      refine va_bast hx hb hK hP hD hS 1 2 rfl rfl (vp_in_nI (by omega) (by omega)) dJ5_append_41 (fun H locs hP hD hS => ?_)
      rw [nI_clamp (by omega)] at hP hD
      rw [show vp_nar .byte (nI (k)) = (nI (k)) from bynar hk] at hP hD
      have hP : va_P D vwCl [(sb, .inr (12, [.ref sq_2, .int (nI (0)), .int ml, .int (nI (cap + 1))])), (sq_2, .inl (dA 2, 2 * cap + 2, .inl (upd (va_cpy g (fun _ => 0) 0 0 cap) cap (nI (k)))))] H := hP
      have hD : va_D A [(sb, .inr (12, [.ref sq_2, .int (nI (0)), .int ml, .int (nI (cap + 1))])), (sq_2, .inl (dA 2, 2 * cap + 2, .inl (upd (va_cpy g (fun _ => 0) 0 0 cap) cap (nI (k)))))] := hD
      refine lv_goto (tgt := 75) hx hb dJ5_append_42 (by decide) ?_
      refine lv_aload_n hx hb dJ5_append_75 rfl (lv_at hl 0 rfl) ?_
      exact z_aret (v := sb) hx hb hr (Or.inl ⟨_, rfl⟩) hS (⟨sq_2, rfl, hP, hD⟩) (by omega) (by omega) dJ5_append_76

set_option maxHeartbeats 4000000 in
set_option maxRecDepth 100000 in
theorem mJ6_append (l : Launch) (D : va_G) (dA : Nat → ClassId) (ad : Nat → Nat) (A : Nat → Prop) (sz : Nat) (sb : Nat) (sv : Nat) (ml : Int32) (n : Nat) (cap : Nat) (g : Nat → Int32) (k : Nat) (hA : ∀ q, sz ≤ q → A q) (h1 : n + 1 ≤ cap) (h2 : cap ≤ 1000) (hk : k < 128) (hD : va_D A [(sb, .inr (12, [.ref sv, .int (nI (0)), .int ml, .int (nI (n))])), (sv, .inl (dA 2, cap, .inl g))]) : Met l yJ6_append (ws_ yJ6_append cJ6_append 2 (some (.object "java/lang/StringBuilder"))) ({ frames := 3, cells := 0, slots := 0, locals := 90 }) (va_Pc [.ref sb, .int (nI (k))] (zP D dA ad A sz (fun H => va_P D vwCl [(sb, .inr (12, [.ref sv, .int (nI (0)), .int ml, .int (nI (n))])), (sv, .inl (dA 2, cap, .inl g))] H))) (zQr (fun rz H => rz = sb ∧ va_P D vwCl [(sb, .inr (12, [.ref sv, .int (nI (0)), .int ml, .int (nI (n + 1))])), (sv, .inl (dA 2, cap, .inl (upd g n (nI (k)))))] H) A) (0) (0) A := by
  refine Met.ofW (cc := cJ6_append) (maxL := 2) (ret := (some (.object "java/lang/StringBuilder"))) (by decide) rfl ?_
  intro p e s m args below meth c s₁ B hml hv
  obtain ⟨rfl, hsz, hC, hP⟩ := hv
  have hx := B.exec
  have hb := B.bytes
  have hr := B.returns
  have hts := atoms_spec (ws := ws_ yJ6_append cJ6_append 2 (some (.object "java/lang/StringBuilder"))) B.pre
  have hts : ∀ w ∈ lw_all, w.before _ s = true := fun w h => hts w (List.mem_cons_of_mem _ h)
  have hown : s.vm.findClass RJ6 = some m.cls := findClass_of_methodNamed B.named
  have hlocks := B.notSynchronized
  subst hsz
  have hK := hC.K
  have hS : va_S A s.heap s.heap [] := va_S.rf
  have hP : va_P D vwCl [(sb, .inr (12, [.ref sv, .int (nI (0)), .int ml, .int (nI (n))])), (sv, .inl (dA 2, cap, .inl g))] s.heap := hP
  have hl := lv_entry ([.ref sb, .int (nI (k))]) (n := 2) (Nat.le_of_ble_eq_true rfl)
  rw [lg_entry_eq]
  generalize (lg_sl ([.ref sb, .int (nI (k))]) ++ List.replicate (2 - (lg_sl ([.ref sb, .int (nI (k))])).length) Slot.unset).toArray = ls at hl ⊢
  have hl : lv_has ls 2 [(0, .ref sb), (1, .int (nI (k)))] := hl
  refine lv_aload_n hx hb dJ6_append_0 rfl (lv_at hl 0 rfl) ?_
  refine lv_iload_n hx hb dJ6_append_1 rfl (lv_at hl 1 rfl) ?_
  refine z_cSUr (hC.K.1 12 _ rfl).2 (As := [.int (nI (k))]) (rest := []) ⟨hx, hb, hml, hown, hts⟩ (mJ5_append l D dA ad A s.heap.size sb sv ml n cap g k (hA_up hA hS) (by omega) (by omega) (by omega) (hD.sub [0, 1] (by decide) rfl)) (va_cwSU 1 hts (lw_SU q1081 q1611 q281 q1082 q63 q1083) rfl rfl rfl (by decide +kernel) ⟨Nat.le_of_ble_eq_true rfl, Nat.le_of_ble_eq_true rfl⟩) hC hS (fun _ h => h) (hP.sub (ws' := [(sb, .inr (12, [.ref sv, .int (nI (0)), .int ml, .int (nI (n))])), (sv, .inl (dA 2, cap, .inl g))]) [0, 1] rfl) (va_recv hK hP (ci := 12) (q0 := 0) rfl rfl) rfl rfl hl.1 (Nat.le_of_ble_eq_true rfl) dJ6_append_2 ⟨Nat.le_of_ble_eq_true rfl, Nat.le_of_ble_eq_true rfl⟩ (fun r_1 H locs hQ hF hS => ?_)
  obtain ⟨hQ, hP⟩ := hQ
  have hD := va_D.same (ws' := [(sb, .inr (12, [.ref sv, .int (nI (0)), .int ml, .int (nI (n + 1))])), (sv, .inl (dA 2, cap, .inl (upd g n (nI (k)))))]) (hD.sub (ws' := [(sb, .inr (12, [.ref sv, .int (nI (0)), .int ml, .int (nI (n))])), (sv, .inl (dA 2, cap, .inl g))]) [0, 1] (by decide) rfl) rfl
  have hP : va_P D vwCl [(sb, .inr (12, [.ref sv, .int (nI (0)), .int ml, .int (nI (n + 1))])), (sv, .inl (dA 2, cap, .inl (upd g n (nI (k)))))] H := hP
  have hD : va_D A [(sb, .inr (12, [.ref sv, .int (nI (0)), .int ml, .int (nI (n + 1))])), (sv, .inl (dA 2, cap, .inl (upd g n (nI (k)))))] := hD
  obtain rfl : sb = r_1 := hQ.symm
  refine lv_pop hx hb dJ6_append_5 rfl ?_
  refine lv_aload_n hx hb dJ6_append_6 rfl (lv_at hl 0 rfl) ?_
  exact z_aret (v := sb) hx hb hr (Or.inl ⟨_, rfl⟩) hS (⟨rfl, hP⟩) (by omega) (by omega) dJ6_append_7

set_option maxHeartbeats 4000000 in
set_option maxRecDepth 100000 in
theorem mJ6_appendC (l : Launch) (D : va_G) (dA : Nat → ClassId) (ad : Nat → Nat) (A : Nat → Prop) (sz : Nat) (sb : Nat) (sv : Nat) (ml : Int32) (cap : Nat) (g : Nat → Int32) (k : Nat) (hA : ∀ q, sz ≤ q → A q) (h2 : cap ≤ 1000) (hG : ByG g cap) (hk : k < 128) (hD : va_D A [(sb, .inr (12, [.ref sv, .int (nI (0)), .int ml, .int (nI (cap))])), (sv, .inl (dA 2, cap, .inl g))]) : Met l yJ6_append (ws_ yJ6_append cJ6_append 2 (some (.object "java/lang/StringBuilder"))) ({ frames := 5, cells := 1, slots := 2 * cap + 2, locals := 170 }) (va_Pc [.ref sb, .int (nI (k))] (zP D dA ad A sz (fun H => va_P D vwCl [(sb, .inr (12, [.ref sv, .int (nI (0)), .int ml, .int (nI (cap))])), (sv, .inl (dA 2, cap, .inl g))] H))) (zQr (fun rz H => ∃ sq : Nat, rz = sb ∧ va_P D vwCl [(sb, .inr (12, [.ref sq, .int (nI (0)), .int ml, .int (nI (cap + 1))])), (sq, .inl (dA 2, 2 * cap + 2, .inl (upd (va_cpy g (fun _ => 0) 0 0 cap) cap (nI (k)))))] H ∧ va_D A [(sb, .inr (12, [.ref sq, .int (nI (0)), .int ml, .int (nI (cap + 1))])), (sq, .inl (dA 2, 2 * cap + 2, .inl (upd (va_cpy g (fun _ => 0) 0 0 cap) cap (nI (k)))))]) A) (1) (2 * cap + 2) A := by
  refine Met.ofW (cc := cJ6_append) (maxL := 2) (ret := (some (.object "java/lang/StringBuilder"))) (by decide) rfl ?_
  intro p e s m args below meth c s₁ B hml hv
  obtain ⟨rfl, hsz, hC, hP⟩ := hv
  have hx := B.exec
  have hb := B.bytes
  have hr := B.returns
  have hts := atoms_spec (ws := ws_ yJ6_append cJ6_append 2 (some (.object "java/lang/StringBuilder"))) B.pre
  have hts : ∀ w ∈ lw_all, w.before _ s = true := fun w h => hts w (List.mem_cons_of_mem _ h)
  have hown : s.vm.findClass RJ6 = some m.cls := findClass_of_methodNamed B.named
  have hlocks := B.notSynchronized
  subst hsz
  have hK := hC.K
  have hS : va_S A s.heap s.heap [] := va_S.rf
  have hP : va_P D vwCl [(sb, .inr (12, [.ref sv, .int (nI (0)), .int ml, .int (nI (cap))])), (sv, .inl (dA 2, cap, .inl g))] s.heap := hP
  have hl := lv_entry ([.ref sb, .int (nI (k))]) (n := 2) (Nat.le_of_ble_eq_true rfl)
  rw [lg_entry_eq]
  generalize (lg_sl ([.ref sb, .int (nI (k))]) ++ List.replicate (2 - (lg_sl ([.ref sb, .int (nI (k))])).length) Slot.unset).toArray = ls at hl ⊢
  have hl : lv_has ls 2 [(0, .ref sb), (1, .int (nI (k)))] := hl
  refine lv_aload_n hx hb dJ6_append_0 rfl (lv_at hl 0 rfl) ?_
  refine lv_iload_n hx hb dJ6_append_1 rfl (lv_at hl 1 rfl) ?_
  refine z_cSUr (hC.K.1 12 _ rfl).2 (As := [.int (nI (k))]) (rest := []) ⟨hx, hb, hml, hown, hts⟩ (mJ5_appendC l D dA ad A s.heap.size sb sv ml cap g k (hA_up hA hS) (by omega) (hG) (by omega) (hD.sub [0, 1] (by decide) rfl)) (va_cwSU 1 hts (lw_SU q1081 q1611 q281 q1082 q63 q1083) rfl rfl rfl (by decide +kernel) ⟨Nat.le_of_ble_eq_true rfl, Nat.le_of_ble_eq_true rfl⟩) hC hS (fun _ h => h) (hP.sub (ws' := [(sb, .inr (12, [.ref sv, .int (nI (0)), .int ml, .int (nI (cap))])), (sv, .inl (dA 2, cap, .inl g))]) [0, 1] rfl) (va_recv hK hP (ci := 12) (q0 := 0) rfl rfl) rfl rfl hl.1 (Nat.le_of_ble_eq_true rfl) dJ6_append_2 ⟨by first | exact Nat.le_of_ble_eq_true rfl | (show _ ≤ _; simp only [headSpec]; omega), by first | exact Nat.le_of_ble_eq_true rfl | (show _ ≤ _; simp only [headSpec]; omega)⟩ (fun r_1 H locs hQ hF hS => ?_)
  obtain ⟨sq_2, hQ, hP1, hD1⟩ := hQ
  have hP := hP1
  have hD := hD1
  have hP : va_P D vwCl [(sb, .inr (12, [.ref sq_2, .int (nI (0)), .int ml, .int (nI (cap + 1))])), (sq_2, .inl (dA 2, 2 * cap + 2, .inl (upd (va_cpy g (fun _ => 0) 0 0 cap) cap (nI (k)))))] H := hP
  have hD : va_D A [(sb, .inr (12, [.ref sq_2, .int (nI (0)), .int ml, .int (nI (cap + 1))])), (sq_2, .inl (dA 2, 2 * cap + 2, .inl (upd (va_cpy g (fun _ => 0) 0 0 cap) cap (nI (k)))))] := hD
  obtain rfl : sb = r_1 := hQ.symm
  refine lv_pop hx hb dJ6_append_5 rfl ?_
  refine lv_aload_n hx hb dJ6_append_6 rfl (lv_at hl 0 rfl) ?_
  exact z_aret (v := sb) hx hb hr (Or.inl ⟨_, rfl⟩) hS (⟨sq_2, rfl, hP, hD⟩) (by omega) (by omega) dJ6_append_7

set_option maxHeartbeats 4000000 in
set_option maxRecDepth 100000 in
theorem mJ5_setLength (l : Launch) (D : va_G) (dA : Nat → ClassId) (ad : Nat → Nat) (A : Nat → Prop) (sz : Nat) (sb : Nat) (sv : Nat) (ml : Int32) (n : Nat) (cap : Nat) (g : Nat → Int32) (hA : ∀ q, sz ≤ q → A q) (h1 : n ≤ cap) (h2 : cap ≤ 1000) (hD : va_D A [(sb, .inr (12, [.ref sv, .int (nI (0)), .int ml, .int (nI (n))])), (sv, .inl (dA 2, cap, .inl g))]) : Met l yJ5_setLength (ws_ yJ5_setLength cJ5_setLength 2 none) ({ frames := 2, cells := 0, slots := 0, locals := 60 }) (va_Pc [.ref sb, .int (nI (0))] (zP D dA ad A sz (fun H => va_P D vwCl [(sb, .inr (12, [.ref sv, .int (nI (0)), .int ml, .int (nI (n))])), (sv, .inl (dA 2, cap, .inl g))] H))) (zQv (fun H => ∃ ml2 : Int32, True ∧ va_P D vwCl [(sb, .inr (12, [.ref sv, .int (nI (0)), .int ml2, .int (nI (0))])), (sv, .inl (dA 2, cap, .inl g))] H ∧ va_D A [(sb, .inr (12, [.ref sv, .int (nI (0)), .int ml2, .int (nI (0))])), (sv, .inl (dA 2, cap, .inl g))]) A) (0) (0) A := by
  refine Met.ofW (cc := cJ5_setLength) (maxL := 2) (ret := none) (by decide) rfl ?_
  intro p e s m args below meth c s₁ B hml hv
  obtain ⟨rfl, hsz, hC, hP⟩ := hv
  have hx := B.exec
  have hb := B.bytes
  have hr := B.returns
  have hts := atoms_spec (ws := ws_ yJ5_setLength cJ5_setLength 2 none) B.pre
  have hts : ∀ w ∈ lw_all, w.before _ s = true := fun w h => hts w (List.mem_cons_of_mem _ h)
  have hown : s.vm.findClass RJ5 = some m.cls := findClass_of_methodNamed B.named
  have hlocks := B.notSynchronized
  subst hsz
  have hK := hC.K
  have hS : va_S A s.heap s.heap [] := va_S.rf
  have hP : va_P D vwCl [(sb, .inr (12, [.ref sv, .int (nI (0)), .int ml, .int (nI (n))])), (sv, .inl (dA 2, cap, .inl g))] s.heap := hP
  have hl := lv_entry ([.ref sb, .int (nI (0))]) (n := 2) (Nat.le_of_ble_eq_true rfl)
  rw [lg_entry_eq]
  generalize (lg_sl ([.ref sb, .int (nI (0))]) ++ List.replicate (2 - (lg_sl ([.ref sb, .int (nI (0))])).length) Slot.unset).toArray = ls at hl ⊢
  have hl : lv_has ls 2 [(0, .ref sb), (1, .int (nI (0)))] := hl
  refine lv_iload_n hx hb dJ5_setLength_0 rfl (lv_at hl 1 rfl) ?_
  refine lv_if_ge (tgt := 13) hx hb dJ5_setLength_1 (by decide) (fun c_1 => ?_) (fun c_1 => ?_)
  · refine lv_aload_n hx hb dJ5_setLength_13 rfl (lv_at hl 0 rfl) ?_
    refine lv_iload_n hx hb dJ5_setLength_14 rfl (lv_at hl 1 rfl) ?_
    refine z_cUv (As := [.int (nI (0))]) (rest := []) ⟨hx, hb, hml, hown, hts⟩ (mJ5_ensureCapacityInternal l D dA ad s.heap.size sb sv ml n cap g 0 (by omega) (by omega)) (z_cwU 1 hts q1084 q1612 q1086 q63 q1087 (va_Nw.use rfl (Cx.nX hC (List.mem_of_getElem? (i := 0) rfl))) rfl rfl rfl (by decide +kernel) ⟨Nat.le_of_ble_eq_true rfl, Nat.le_of_ble_eq_true rfl⟩) hC hS (fun _ h => hA _ (Nat.le_trans hS.1 h)) (hP.sub (ws' := [(sb, .inr (12, [.ref sv, .int (nI (0)), .int ml, .int (nI (n))])), (sv, .inl (dA 2, cap, .inl g))]) [0, 1] rfl) (va_recv hK hP (ci := 12) (q0 := 0) rfl rfl) rfl rfl hl.1 (Nat.le_of_ble_eq_true rfl) dJ5_setLength_15 ⟨Nat.le_of_ble_eq_true rfl, Nat.le_of_ble_eq_true rfl⟩ (fun H locs hQ hF hS => ?_)
    have hP := va_P.ro hF hP
    refine lv_aload_n hx hb dJ5_setLength_18 rfl (lv_at hl 0 rfl) ?_
    refine va_get (D := D) (ci := 12) (v := .int (nI (n))) (C := RJ6) (T := TJ6) (N := 4) hx hb hts in_J6 hown hK hP 0 rfl rfl 3 (by decide) (hts _ q272) (fun _ h9 => h9) rfl dJ5_setLength_19 ?_
    refine lv_iload_n hx hb dJ5_setLength_22 rfl (lv_at hl 1 rfl) ?_
    refine lv_icmp_ge (tgt := 63) hx hb dJ5_setLength_23 (by decide) (fun c_3 => ?_) (fun c_3 => ?_)
    · have c_3 := (nI_leI (by omega) (by omega)).1 c_3
      refine lv_aload_n hx hb dJ5_setLength_63 rfl (lv_at hl 0 rfl) ?_
      refine va_get (D := D) (ci := 12) (v := .int (nI (n))) (C := RJ6) (T := TJ6) (N := 4) hx hb hts in_J6 hown hK hP 0 rfl rfl 3 (by decide) (hts _ q272) (fun _ h9 => h9) rfl dJ5_setLength_64 ?_
      refine lv_iload_n hx hb dJ5_setLength_67 rfl (lv_at hl 1 rfl) ?_
      refine lv_icmp_le (tgt := 76) hx hb dJ5_setLength_68 (by decide) (fun c_4 => ?_) (fun c_4 => ?_)
      · have c_4 := (nI_leI (by omega) (by omega)).1 c_4
        refine lv_aload_n hx hb dJ5_setLength_76 rfl (lv_at hl 0 rfl) ?_
        refine lv_iload_n hx hb dJ5_setLength_77 rfl (lv_at hl 1 rfl) ?_
        refine va_put (D := D) (ci := 12) (v := .int (nI (0))) (ty := .int) (C := RJ6) (T := TJ6) (N := 4) hx hb hts in_J6 tyJ6 tyJ6_ok nmJ6 hown hK hP hD hS 0 rfl rfl 3 (by decide) (hts _ q272) (fun _ h9 => h9) rfl (by decide +kernel) rfl rfl (Nat.le_of_ble_eq_true rfl) dJ5_setLength_78 (fun H locs hP hD hS => ?_)
        have hP : va_P D vwCl [(sb, .inr (12, [.ref sv, .int (nI (0)), .int ml, .int (nI (0))])), (sv, .inl (dA 2, cap, .inl g))] H := hP
        have hD : va_D A [(sb, .inr (12, [.ref sv, .int (nI (0)), .int ml, .int (nI (0))])), (sv, .inl (dA 2, cap, .inl g))] := hD
        exact z_vret hx hb hr hS (⟨ml, trivial, hP, hD⟩) (by omega) (by omega) dJ5_setLength_81
      · have c_4 := mt (nI_leI (by omega) (by omega)).2 c_4
        refine lv_aload_n hx hb dJ5_setLength_71 rfl (lv_at hl 0 rfl) ?_
        refine lv_iconst (v := nI (1)) hx hb dJ5_setLength_72 (by decide) ?_
        refine va_put (D := D) (ci := 12) (v := .int (nI (1))) (ty := .boolean) (C := RJ6) (T := TJ6) (N := 4) hx hb hts in_J6 tyJ6 tyJ6_ok nmJ6 hown hK hP hD hS 0 rfl rfl 2 (by decide) (hts _ q271) (fun _ h9 => h9) rfl (by decide +kernel) rfl rfl (Nat.le_of_ble_eq_true rfl) dJ5_setLength_73 (fun H locs hP hD hS => ?_)
        have hP : va_P D vwCl [(sb, .inr (12, [.ref sv, .int (nI (0)), .int (nI (1)), .int (nI (n))])), (sv, .inl (dA 2, cap, .inl g))] H := hP
        have hD : va_D A [(sb, .inr (12, [.ref sv, .int (nI (0)), .int (nI (1)), .int (nI (n))])), (sv, .inl (dA 2, cap, .inl g))] := hD
        refine lv_aload_n hx hb dJ5_setLength_76 rfl (lv_at hl 0 rfl) ?_
        refine lv_iload_n hx hb dJ5_setLength_77 rfl (lv_at hl 1 rfl) ?_
        refine va_put (D := D) (ci := 12) (v := .int (nI (0))) (ty := .int) (C := RJ6) (T := TJ6) (N := 4) hx hb hts in_J6 tyJ6 tyJ6_ok nmJ6 hown hK hP hD hS 0 rfl rfl 3 (by decide) (hts _ q272) (fun _ h9 => h9) rfl (by decide +kernel) rfl rfl (Nat.le_of_ble_eq_true rfl) dJ5_setLength_78 (fun H locs hP hD hS => ?_)
        have hP : va_P D vwCl [(sb, .inr (12, [.ref sv, .int (nI (0)), .int (nI (1)), .int (nI (0))])), (sv, .inl (dA 2, cap, .inl g))] H := hP
        have hD : va_D A [(sb, .inr (12, [.ref sv, .int (nI (0)), .int (nI (1)), .int (nI (0))])), (sv, .inl (dA 2, cap, .inl g))] := hD
        exact z_vret hx hb hr hS (⟨nI (1), trivial, hP, hD⟩) (by omega) (by omega) dJ5_setLength_81
    · have c_3 := mt (nI_leI (by omega) (by omega)).2 c_3
      omega
  · exact absurd c_1 (by decide)

set_option maxHeartbeats 4000000 in
set_option maxRecDepth 100000 in
theorem mJ6_setLength (l : Launch) (D : va_G) (dA : Nat → ClassId) (ad : Nat → Nat) (A : Nat → Prop) (sz : Nat) (sb : Nat) (sv : Nat) (ml : Int32) (n : Nat) (cap : Nat) (g : Nat → Int32) (hA : ∀ q, sz ≤ q → A q) (h1 : n ≤ cap) (h2 : cap ≤ 1000) (hD : va_D A [(sb, .inr (12, [.ref sv, .int (nI (0)), .int ml, .int (nI (n))])), (sv, .inl (dA 2, cap, .inl g))]) : Met l yJ6_setLength (ws_ yJ6_setLength cJ6_setLength 2 none) ({ frames := 3, cells := 0, slots := 0, locals := 90 }) (va_Pc [.ref sb, .int (nI (0))] (zP D dA ad A sz (fun H => va_P D vwCl [(sb, .inr (12, [.ref sv, .int (nI (0)), .int ml, .int (nI (n))])), (sv, .inl (dA 2, cap, .inl g))] H))) (zQv (fun H => ∃ ml2 : Int32, True ∧ va_P D vwCl [(sb, .inr (12, [.ref sv, .int (nI (0)), .int ml2, .int (nI (0))])), (sv, .inl (dA 2, cap, .inl g))] H ∧ va_D A [(sb, .inr (12, [.ref sv, .int (nI (0)), .int ml2, .int (nI (0))])), (sv, .inl (dA 2, cap, .inl g))]) A) (0) (0) A := by
  refine Met.ofW (cc := cJ6_setLength) (maxL := 2) (ret := none) (by decide) rfl ?_
  intro p e s m args below meth c s₁ B hml hv
  obtain ⟨rfl, hsz, hC, hP⟩ := hv
  have hx := B.exec
  have hb := B.bytes
  have hr := B.returns
  have hts := atoms_spec (ws := ws_ yJ6_setLength cJ6_setLength 2 none) B.pre
  have hts : ∀ w ∈ lw_all, w.before _ s = true := fun w h => hts w (List.mem_cons_of_mem _ h)
  have hown : s.vm.findClass RJ6 = some m.cls := findClass_of_methodNamed B.named
  have hlocks := B.notSynchronized
  subst hsz
  have hK := hC.K
  have hS : va_S A s.heap s.heap [] := va_S.rf
  have hP : va_P D vwCl [(sb, .inr (12, [.ref sv, .int (nI (0)), .int ml, .int (nI (n))])), (sv, .inl (dA 2, cap, .inl g))] s.heap := hP
  have hl := lv_entry ([.ref sb, .int (nI (0))]) (n := 2) (Nat.le_of_ble_eq_true rfl)
  rw [lg_entry_eq]
  generalize (lg_sl ([.ref sb, .int (nI (0))]) ++ List.replicate (2 - (lg_sl ([.ref sb, .int (nI (0))])).length) Slot.unset).toArray = ls at hl ⊢
  have hl : lv_has ls 2 [(0, .ref sb), (1, .int (nI (0)))] := hl
  refine lv_aload_n hx hb dJ6_setLength_0 rfl (lv_at hl 0 rfl) ?_
  refine lv_iload_n hx hb dJ6_setLength_1 rfl (lv_at hl 1 rfl) ?_
  refine z_cSUv (hC.K.1 12 _ rfl).2 (As := [.int (nI (0))]) (rest := []) ⟨hx, hb, hml, hown, hts⟩ (mJ5_setLength l D dA ad A s.heap.size sb sv ml n cap g (hA_up hA hS) (by omega) (by omega) (hD.sub [0, 1] (by decide) rfl)) (va_cwSU 1 hts (lw_SU q1150 q1615 q281 q1151 q63 q1152) rfl rfl rfl (by decide +kernel) ⟨Nat.le_of_ble_eq_true rfl, Nat.le_of_ble_eq_true rfl⟩) hC hS (fun _ h => h) (hP.sub (ws' := [(sb, .inr (12, [.ref sv, .int (nI (0)), .int ml, .int (nI (n))])), (sv, .inl (dA 2, cap, .inl g))]) [0, 1] rfl) (va_recv hK hP (ci := 12) (q0 := 0) rfl rfl) rfl rfl hl.1 (Nat.le_of_ble_eq_true rfl) dJ6_setLength_2 ⟨Nat.le_of_ble_eq_true rfl, Nat.le_of_ble_eq_true rfl⟩ (fun H locs hQ hF hS => ?_)
  obtain ⟨ml2_2, hQ, hP1, hD1⟩ := hQ
  have hP := hP1
  have hD := hD1
  have hP : va_P D vwCl [(sb, .inr (12, [.ref sv, .int (nI (0)), .int ml2_2, .int (nI (0))])), (sv, .inl (dA 2, cap, .inl g))] H := hP
  have hD : va_D A [(sb, .inr (12, [.ref sv, .int (nI (0)), .int ml2_2, .int (nI (0))])), (sv, .inl (dA 2, cap, .inl g))] := hD
  exact z_vret hx hb hr hS (⟨ml2_2, trivial, hP, hD⟩) (by omega) (by omega) dJ6_setLength_5

set_option maxHeartbeats 4000000 in
set_option maxRecDepth 100000 in
theorem mJ5_charAt (l : Launch) (D : va_G) (dA : Nat → ClassId) (ad : Nat → Nat) (sz : Nat) (sb : Nat) (sv : Nat) (ml : Int32) (n : Nat) (cap : Nat) (g : Nat → Int32) (k : Nat) (y : Nat) (h1 : n ≤ cap) (h2 : cap ≤ 1000) (h3 : k < n) (hy : y < 128) (hg : g k = nI (y)) : Met l yJ5_charAt (ws_ yJ5_charAt cJ5_charAt 5 (some .char)) ({ frames := 2, cells := 0, slots := 0, locals := 75 }) (va_Pc [.ref sb, .int (nI (k))] (zP D dA ad (fun q => sz ≤ q) sz (fun H => va_P D vwCl [(sb, .inr (12, [.ref sv, .int (nI (0)), .int ml, .int (nI (n))])), (sv, .inl (dA 2, cap, .inl g))] H))) (zQi (fun rz H => rz = nI (y)) (fun q => sz ≤ q)) (0) (0) (fun q => sz ≤ q) := by
  refine Met.ofW (cc := cJ5_charAt) (maxL := 5) (ret := (some .char)) (by decide) rfl ?_
  intro p e s m args below meth c s₁ B hml hv
  obtain ⟨rfl, hsz, hC, hP⟩ := hv
  have hx := B.exec
  have hb := B.bytes
  have hr := B.returns
  have hts := atoms_spec (ws := ws_ yJ5_charAt cJ5_charAt 5 (some .char)) B.pre
  have hts : ∀ w ∈ lw_all, w.before _ s = true := fun w h => hts w (List.mem_cons_of_mem _ h)
  have hown : s.vm.findClass RJ5 = some m.cls := findClass_of_methodNamed B.named
  have hlocks := B.notSynchronized
  subst hsz
  have hK := hC.K
  have hA : ∀ q : Nat, s.heap.size ≤ q → s.heap.size ≤ q := fun _ h => h
  have hS : va_S (fun q => s.heap.size ≤ q) s.heap s.heap [] := va_S.rf
  have hP : va_P D vwCl [(sb, .inr (12, [.ref sv, .int (nI (0)), .int ml, .int (nI (n))])), (sv, .inl (dA 2, cap, .inl g))] s.heap := hP
  have hl := lv_entry ([.ref sb, .int (nI (k))]) (n := 5) (Nat.le_of_ble_eq_true rfl)
  rw [lg_entry_eq]
  generalize (lg_sl ([.ref sb, .int (nI (k))]) ++ List.replicate (5 - (lg_sl ([.ref sb, .int (nI (k))])).length) Slot.unset).toArray = ls at hl ⊢
  have hl : lv_has ls 5 [(0, .ref sb), (1, .int (nI (k)))] := hl
  refine lv_aload_n hx hb dJ5_charAt_0 rfl (lv_at hl 0 rfl) ?_
  refine va_get (D := D) (ci := 12) (v := .int (nI (0))) (C := RJ6) (T := TJ6) (N := 4) hx hb hts in_J6 hown hK hP 0 rfl rfl 1 (by decide) (hts _ q270) (fun _ h9 => h9) rfl dJ5_charAt_1 ?_
  refine lv_istore_n (lv' := [(2, .int (nI (0))), (0, .ref sb), (1, .int (nI (k)))]) hx hb dJ5_charAt_4 rfl hl (by decide) rfl (fun ls hl => ?_)
  refine lv_aload_n hx hb dJ5_charAt_5 rfl (lv_at hl 1 rfl) ?_
  refine va_get (D := D) (ci := 12) (v := .ref sv) (C := RJ6) (T := TJ6) (N := 4) hx hb hts in_J6 hown hK hP 0 rfl rfl 0 (by decide) (hts _ q269) (fun _ h9 => h9) rfl dJ5_charAt_6 ?_
  refine lv_astore_n (lv' := [(3, .ref sv), (2, .int (nI (0))), (0, .ref sb), (1, .int (nI (k)))]) hx hb dJ5_charAt_9 rfl hl (by decide) rfl (fun ls hl => ?_)
  refine lv_aload_n hx hb dJ5_charAt_10 rfl (lv_at hl 2 rfl) ?_
  refine va_get (D := D) (ci := 12) (v := .int (nI (n))) (C := RJ6) (T := TJ6) (N := 4) hx hb hts in_J6 hown hK hP 0 rfl rfl 3 (by decide) (hts _ q272) (fun _ h9 => h9) rfl dJ5_charAt_11 ?_
  refine lv_aload_n hx hb dJ5_charAt_14 rfl (lv_at hl 0 rfl) ?_
  refine va_alen (v := nI (cap)) hx hb hK hP 1 2 rfl rfl rfl dJ5_charAt_15 ?_
  refine lv_iload_n hx hb dJ5_charAt_16 rfl (lv_at hl 1 rfl) ?_
  refine lv_ishr hx hb dJ5_charAt_17 ?_
  refine lv_tope (y := nI (cap)) (shr0 (by omega)) ?_
  refine va_mmin hx hb (hml.trans hl.1.symm) hown (hts _ q1248) (hts _ q410) (hts _ q70) (hts _ q411) (Nat.le_of_ble_eq_true rfl) (Nat.le_of_ble_eq_true rfl) (by first | exact Nat.le_of_ble_eq_true rfl | (show _ ≤ _; simp only [headSpec]; omega)) (by first | exact Nat.le_of_ble_eq_true rfl | (show _ ≤ _; simp only [headSpec]; omega)) dJ5_charAt_18 ?_
  refine lv_tope (y := nI (if cap < n then cap else n)) (mn_n (by omega) (by omega)) ?_
  refine lv_tope (y := nI (n)) (by rw [if_neg (by omega)]) ?_
  refine lv_istore (lv' := [(4, .int (nI (n))), (3, .ref sv), (2, .int (nI (0))), (0, .ref sb), (1, .int (nI (k)))]) hx hb dJ5_charAt_21 hl (by decide) rfl (fun ls hl => ?_)
  refine lv_iload_n hx hb dJ5_charAt_23 rfl (lv_at hl 4 rfl) ?_
  refine lv_iload hx hb dJ5_charAt_24 (lv_at hl 0 rfl) ?_
  refine z_cSv (As := [.int (nI (k)), .int (nI (n))]) (rest := []) ⟨hx, hb, hml, hown, hts⟩ (mJ7_checkIndex l D dA ad s.heap.size k n (by omega) (by omega)) (va_cwS 2 hts (lw_S q1249 q1139 q65 q1140) rfl rfl rfl (by decide +kernel) ⟨Nat.le_of_ble_eq_true rfl, Nat.le_of_ble_eq_true rfl⟩) hC hS (fun _ h => hA _ (Nat.le_trans hS.1 h)) trivial rfl rfl hl.1 (Nat.le_of_ble_eq_true rfl) dJ5_charAt_26 ⟨Nat.le_of_ble_eq_true rfl, Nat.le_of_ble_eq_true rfl⟩ (fun H locs hQ hF hS => ?_)
  have hP := va_P.ro hF hP
  refine lv_iload_n hx hb dJ5_charAt_29 rfl (lv_at hl 2 rfl) ?_
  refine lv_if_ne (tgt := 42) hx hb dJ5_charAt_30 (by decide) (fun c_2 => ?_) (fun c_2 => ?_)
  · exact absurd c_2 (by decide)
  · refine lv_aload_n hx hb dJ5_charAt_33 rfl (lv_at hl 1 rfl) ?_
    refine lv_iload_n hx hb dJ5_charAt_34 rfl (lv_at hl 4 rfl) ?_
    refine va_bald hx hb hK hP 1 2 rfl rfl (vp_in_nI (by omega) (by omega)) dJ5_charAt_35 ?_
    refine lv_tope (y := g k) (by rw [nI_clamp (by omega)]) ?_
    refine lv_sipush (v := nI (255)) hx hb dJ5_charAt_36 (by decide) ?_
    refine lv_iand hx hb dJ5_charAt_39 ?_
    refine lv_i2c (v := nI (y)) hx hb dJ5_charAt_40 (by rw [hg]; exact (by255 hy).1) ?_
    exact z_zret (v := nI (y)) hx hb hr ((by255 hy).2) hS (rfl) (by omega) (by omega) dJ5_charAt_41

set_option maxHeartbeats 4000000 in
set_option maxRecDepth 100000 in
theorem mJ6_charAt (l : Launch) (D : va_G) (dA : Nat → ClassId) (ad : Nat → Nat) (sz : Nat) (sb : Nat) (sv : Nat) (ml : Int32) (n : Nat) (cap : Nat) (g : Nat → Int32) (k : Nat) (y : Nat) (h1 : n ≤ cap) (h2 : cap ≤ 1000) (h3 : k < n) (hy : y < 128) (hg : g k = nI (y)) : Met l yJ6_charAt (ws_ yJ6_charAt cJ6_charAt 2 (some .char)) ({ frames := 3, cells := 0, slots := 0, locals := 105 }) (va_Pc [.ref sb, .int (nI (k))] (zP D dA ad (fun q => sz ≤ q) sz (fun H => va_P D vwCl [(sb, .inr (12, [.ref sv, .int (nI (0)), .int ml, .int (nI (n))])), (sv, .inl (dA 2, cap, .inl g))] H))) (zQi (fun rz H => rz = nI (y)) (fun q => sz ≤ q)) (0) (0) (fun q => sz ≤ q) := by
  refine Met.ofW (cc := cJ6_charAt) (maxL := 2) (ret := (some .char)) (by decide) rfl ?_
  intro p e s m args below meth c s₁ B hml hv
  obtain ⟨rfl, hsz, hC, hP⟩ := hv
  have hx := B.exec
  have hb := B.bytes
  have hr := B.returns
  have hts := atoms_spec (ws := ws_ yJ6_charAt cJ6_charAt 2 (some .char)) B.pre
  have hts : ∀ w ∈ lw_all, w.before _ s = true := fun w h => hts w (List.mem_cons_of_mem _ h)
  have hown : s.vm.findClass RJ6 = some m.cls := findClass_of_methodNamed B.named
  have hlocks := B.notSynchronized
  subst hsz
  have hK := hC.K
  have hA : ∀ q : Nat, s.heap.size ≤ q → s.heap.size ≤ q := fun _ h => h
  have hS : va_S (fun q => s.heap.size ≤ q) s.heap s.heap [] := va_S.rf
  have hP : va_P D vwCl [(sb, .inr (12, [.ref sv, .int (nI (0)), .int ml, .int (nI (n))])), (sv, .inl (dA 2, cap, .inl g))] s.heap := hP
  have hl := lv_entry ([.ref sb, .int (nI (k))]) (n := 2) (Nat.le_of_ble_eq_true rfl)
  rw [lg_entry_eq]
  generalize (lg_sl ([.ref sb, .int (nI (k))]) ++ List.replicate (2 - (lg_sl ([.ref sb, .int (nI (k))])).length) Slot.unset).toArray = ls at hl ⊢
  have hl : lv_has ls 2 [(0, .ref sb), (1, .int (nI (k)))] := hl
  refine lv_aload_n hx hb dJ6_charAt_0 rfl (lv_at hl 0 rfl) ?_
  refine lv_iload_n hx hb dJ6_charAt_1 rfl (lv_at hl 1 rfl) ?_
  refine z_cSUi (hC.K.1 12 _ rfl).2 (As := [.int (nI (k))]) (rest := []) ⟨hx, hb, hml, hown, hts⟩ (mJ5_charAt l D dA ad s.heap.size sb sv ml n cap g k y (by omega) (by omega) (by omega) (hy) (hg)) (va_cwSU 1 hts (lw_SU q1245 q1616 q281 q1246 q63 q1247) rfl rfl rfl (by decide +kernel) ⟨Nat.le_of_ble_eq_true rfl, Nat.le_of_ble_eq_true rfl⟩) hC hS (fun _ h => hA _ (Nat.le_trans hS.1 h)) (hP.sub (ws' := [(sb, .inr (12, [.ref sv, .int (nI (0)), .int ml, .int (nI (n))])), (sv, .inl (dA 2, cap, .inl g))]) [0, 1] rfl) (va_recv hK hP (ci := 12) (q0 := 0) rfl rfl) rfl rfl hl.1 (Nat.le_of_ble_eq_true rfl) dJ6_charAt_2 ⟨Nat.le_of_ble_eq_true rfl, Nat.le_of_ble_eq_true rfl⟩ (fun r_1 H locs hQ hF hS => ?_)
  have hP := va_P.ro hF hP
  obtain rfl : nI (y) = r_1 := hQ.symm
  exact z_zret (v := nI (y)) hx hb hr ((by255 hy).2) hS (rfl) (by omega) (by omega) dJ6_charAt_5
