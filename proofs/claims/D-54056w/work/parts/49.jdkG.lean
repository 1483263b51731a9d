set_option maxHeartbeats 4000000 in
set_option maxRecDepth 100000 in
theorem mJ18_bitCount (l : Launch) (D : va_G) (dA : Nat → ClassId) (ad : Nat → Nat) (sz : Nat) (w : Nat) (hw : w < 2 ^ 64) : Met l yJ18_bitCount (ws_ yJ18_bitCount cJ18_bitCount 2 (some .int)) ({ frames := 0, cells := 0, slots := 0, locals := 0 }) (va_Pc [.long (lN (w))] (zP D dA ad (fun q => sz ≤ q) sz (fun H => True))) (zQi (fun rz H => rz = nI (pc64 w)) (fun q => sz ≤ q)) (0) (0) (fun q => sz ≤ q) := by
  refine Met.ofW (cc := cJ18_bitCount) (maxL := 2) (ret := (some .int)) (by decide) rfl ?_
  intro p e s m args below meth c s₁ B hml hv
  obtain ⟨rfl, hsz, hC, hP⟩ := hv
  have hx := B.exec
  have hb := B.bytes
  have hr := B.returns
  have hts := atoms_spec (ws := ws_ yJ18_bitCount cJ18_bitCount 2 (some .int)) B.pre
  have hts : ∀ w ∈ lw_all, w.before _ s = true := fun w h => hts w (List.mem_cons_of_mem _ h)
  have hown : s.vm.findClass RJ18 = some m.cls := findClass_of_methodNamed B.named
  have hlocks := B.notSynchronized
  subst hsz
  have hK := hC.K
  have hA : ∀ q : Nat, s.heap.size ≤ q → s.heap.size ≤ q := fun _ h => h
  have hS : va_S (fun q => s.heap.size ≤ q) s.heap s.heap [] := va_S.rf
  have hP : va_P D vwCl [] s.heap := va_Pnil
  have h1 := bc1_lt hw
  have h2 := bc2_le (bc1 w)
  have h3 := bc3_le (bc2 (bc1 w))
  have h4 := bc4_le (bc2 (bc1 w))
  have h5 := bc5_le (bc2 (bc1 w))
  have h6 := bc6_le (bc2 (bc1 w))
  have hok := bcN_ok hw
  have hl := lv_entry ([.long (lN (w))]) (n := 2) (Nat.le_of_ble_eq_true rfl)
  rw [lg_entry_eq]
  generalize (lg_sl ([.long (lN (w))]) ++ List.replicate (2 - (lg_sl ([.long (lN (w))])).length) Slot.unset).toArray = ls at hl ⊢
  have hl : lv_has ls 2 [(0, .long (lN (w)))] := hl
  refine lv_lload_n hx hb dJ18_bitCount_0 rfl (lv_at hl 0 rfl) ?_
  refine lv_lload_n hx hb dJ18_bitCount_1 rfl (lv_at hl 0 rfl) ?_
  refine lv_iconst (v := nI (1)) hx hb dJ18_bitCount_2 (by decide) ?_
  refine lv_lushr (v := lN (w / 2 ^ 1)) hx hb dJ18_bitCount_3 (wb_shr hw (by decide)) ?_
  refine lv_ldc2 (v := lN (6148914691236517205)) hx hb hown (hts _ q712) dJ18_bitCount_4 ?_
  refine lv_land hx hb dJ18_bitCount_7 ?_
  refine lv_topel (y := lN ((w / 2 ^ 1) &&& 6148914691236517205)) (wb_and (by omega) (by decide)) ?_
  refine lv_lsub hx hb dJ18_bitCount_8 ?_
  refine lv_topel (y := lN (bc1 w)) (lN_sub (Nat.le_trans Nat.and_le_left (Nat.div_le_self _ _))) ?_
  refine lv_lstore_n (lv' := [(0, .long (lN (bc1 w)))]) hx hb dJ18_bitCount_9 rfl hl (by decide) rfl (fun ls hl => ?_)
  refine lv_lload_n hx hb dJ18_bitCount_10 rfl (lv_at hl 0 rfl) ?_
  refine lv_ldc2 (v := lN (3689348814741910323)) hx hb hown (hts _ q713) dJ18_bitCount_11 ?_
  refine lv_land hx hb dJ18_bitCount_14 ?_
  refine lv_topel (y := lN (bc1 w &&& 3689348814741910323)) (wb_and h1 (by decide)) ?_
  refine lv_lload_n hx hb dJ18_bitCount_15 rfl (lv_at hl 0 rfl) ?_
  refine lv_iconst (v := nI (2)) hx hb dJ18_bitCount_16 (by decide) ?_
  refine lv_lushr (v := lN (bc1 w / 2 ^ 2)) hx hb dJ18_bitCount_17 (wb_shr h1 (by decide)) ?_
  refine lv_ldc2 (v := lN (3689348814741910323)) hx hb hown (hts _ q713) dJ18_bitCount_18 ?_
  refine lv_land hx hb dJ18_bitCount_21 ?_
  refine lv_topel (y := lN ((bc1 w / 2 ^ 2) &&& 3689348814741910323)) (wb_and (by omega) (by decide)) ?_
  refine lv_ladd hx hb dJ18_bitCount_22 ?_
  refine lv_topel (y := lN (bc2 (bc1 w))) (lN_add _ _) ?_
  refine lv_lstore_n (lv' := [(0, .long (lN (bc2 (bc1 w))))]) hx hb dJ18_bitCount_23 rfl hl (by decide) rfl (fun ls hl => ?_)
  refine lv_lload_n hx hb dJ18_bitCount_24 rfl (lv_at hl 0 rfl) ?_
  refine lv_lload_n hx hb dJ18_bitCount_25 rfl (lv_at hl 0 rfl) ?_
  refine lv_iconst (v := nI (4)) hx hb dJ18_bitCount_26 (by decide) ?_
  refine lv_lushr (v := lN (bc2 (bc1 w) / 2 ^ 4)) hx hb dJ18_bitCount_27 (wb_shr (by omega) (by decide)) ?_
  refine lv_ladd hx hb dJ18_bitCount_28 ?_
  refine lv_topel (y := lN (bc2 (bc1 w) + bc2 (bc1 w) / 2 ^ 4)) (lN_add _ _) ?_
  refine lv_ldc2 (v := lN (1085102592571150095)) hx hb hown (hts _ q714) dJ18_bitCount_29 ?_
  refine lv_land hx hb dJ18_bitCount_32 ?_
  refine lv_topel (y := lN (bc3 (bc2 (bc1 w)))) (wb_and (by omega) (by decide)) ?_
  refine lv_lstore_n (lv' := [(0, .long (lN (bc3 (bc2 (bc1 w)))))]) hx hb dJ18_bitCount_33 rfl hl (by decide) rfl (fun ls hl => ?_)
  refine lv_lload_n hx hb dJ18_bitCount_34 rfl (lv_at hl 0 rfl) ?_
  refine lv_lload_n hx hb dJ18_bitCount_35 rfl (lv_at hl 0 rfl) ?_
  refine lv_bipush (v := nI (8)) hx hb dJ18_bitCount_36 (by decide) ?_
  refine lv_lushr (v := lN (bc3 (bc2 (bc1 w)) / 2 ^ 8)) hx hb dJ18_bitCount_38 (wb_shr (by omega) (by decide)) ?_
  refine lv_ladd hx hb dJ18_bitCount_39 ?_
  refine lv_topel (y := lN (bc4 (bc3 (bc2 (bc1 w))))) (lN_add _ _) ?_
  refine lv_lstore_n (lv' := [(0, .long (lN (bc4 (bc3 (bc2 (bc1 w))))))]) hx hb dJ18_bitCount_40 rfl hl (by decide) rfl (fun ls hl => ?_)
  refine lv_lload_n hx hb dJ18_bitCount_41 rfl (lv_at hl 0 rfl) ?_
  refine lv_lload_n hx hb dJ18_bitCount_42 rfl (lv_at hl 0 rfl) ?_
  refine lv_bipush (v := nI (16)) hx hb dJ18_bitCount_43 (by decide) ?_
  refine lv_lushr (v := lN (bc4 (bc3 (bc2 (bc1 w))) / 2 ^ 16)) hx hb dJ18_bitCount_45 (wb_shr (by omega) (by decide)) ?_
  refine lv_ladd hx hb dJ18_bitCount_46 ?_
  refine lv_topel (y := lN (bc5 (bc4 (bc3 (bc2 (bc1 w)))))) (lN_add _ _) ?_
  refine lv_lstore_n (lv' := [(0, .long (lN (bc5 (bc4 (bc3 (bc2 (bc1 w)))))))]) hx hb dJ18_bitCount_47 rfl hl (by decide) rfl (fun ls hl => ?_)
  refine lv_lload_n hx hb dJ18_bitCount_48 rfl (lv_at hl 0 rfl) ?_
  refine lv_lload_n hx hb dJ18_bitCount_49 rfl (lv_at hl 0 rfl) ?_
  refine lv_bipush (v := nI (32)) hx hb dJ18_bitCount_50 (by decide) ?_
  refine lv_lushr (v := lN (bc5 (bc4 (bc3 (bc2 (bc1 w)))) / 2 ^ 32)) hx hb dJ18_bitCount_52 (wb_shr (by omega) (by decide)) ?_
  refine lv_ladd hx hb dJ18_bitCount_53 ?_
  refine lv_topel (y := lN (bc6 (bc5 (bc4 (bc3 (bc2 (bc1 w))))))) (lN_add _ _) ?_
  refine lv_lstore_n (lv' := [(0, .long (lN (bc6 (bc5 (bc4 (bc3 (bc2 (bc1 w))))))))]) hx hb dJ18_bitCount_54 rfl hl (by decide) rfl (fun ls hl => ?_)
  refine lv_lload_n hx hb dJ18_bitCount_55 rfl (lv_at hl 0 rfl) ?_
  refine lv_l2i (v := nI (bc6 (bc5 (bc4 (bc3 (bc2 (bc1 w))))))) hx hb dJ18_bitCount_56 (l2i_n _) ?_
  refine lv_bipush (v := nI (127)) hx hb dJ18_bitCount_57 (by decide) ?_
  refine lv_iand hx hb dJ18_bitCount_59 ?_
  refine lv_tope (y := nI (pc64 w)) (by rw [and127, hok]) ?_
  exact z_iret (v := nI (pc64 w)) hx hb hr hS (rfl) (by omega) (by omega) dJ18_bitCount_60

set_option maxHeartbeats 4000000 in
set_option maxRecDepth 100000 in
theorem mJ3_wordIndex (l : Launch) (D : va_G) (dA : Nat → ClassId) (ad : Nat → Nat) (sz : Nat) (i : Nat) (h1 : i < 2 ^ 31) : Met l yJ3_wordIndex (ws_ yJ3_wordIndex cJ3_wordIndex 1 (some .int)) ({ frames := 0, cells := 0, slots := 0, locals := 0 }) (va_Pc [.int (nI (i))] (zP D dA ad (fun q => sz ≤ q) sz (fun H => True))) (zQi (fun rz H => rz = nI (i / 64)) (fun q => sz ≤ q)) (0) (0) (fun q => sz ≤ q) := by
  refine Met.ofW (cc := cJ3_wordIndex) (maxL := 1) (ret := (some .int)) (by decide) rfl ?_
  intro p e s m args below meth c s₁ B hml hv
  obtain ⟨rfl, hsz, hC, hP⟩ := hv
  have hx := B.exec
  have hb := B.bytes
  have hr := B.returns
  have hts := atoms_spec (ws := ws_ yJ3_wordIndex cJ3_wordIndex 1 (some .int)) B.pre
  have hts : ∀ w ∈ lw_all, w.before _ s = true := fun w h => hts w (List.mem_cons_of_mem _ h)
  have hown : s.vm.findClass RJ3 = some m.cls := findClass_of_methodNamed B.named
  have hlocks := B.notSynchronized
  subst hsz
  have hK := hC.K
  have hA : ∀ q : Nat, s.heap.size ≤ q → s.heap.size ≤ q := fun _ h => h
  have hS : va_S (fun q => s.heap.size ≤ q) s.heap s.heap [] := va_S.rf
  have hP : va_P D vwCl [] s.heap := va_Pnil
  have hl := lv_entry ([.int (nI (i))]) (n := 1) (Nat.le_of_ble_eq_true rfl)
  rw [lg_entry_eq]
  generalize (lg_sl ([.int (nI (i))]) ++ List.replicate (1 - (lg_sl ([.int (nI (i))])).length) Slot.unset).toArray = ls at hl ⊢
  have hl : lv_has ls 1 [(0, .int (nI (i)))] := hl
  refine lv_iload_n hx hb dJ3_wordIndex_0 rfl (lv_at hl 0 rfl) ?_
  refine lv_bipush (v := nI (6)) hx hb dJ3_wordIndex_1 (by decide) ?_
  refine lv_ishr hx hb dJ3_wordIndex_3 ?_
  refine lv_tope (y := nI (i / 64)) (pk_shrN h1 _ 6 (by decide)) ?_
  exact z_iret (v := nI (i / 64)) hx hb hr hS (rfl) (by omega) (by omega) dJ3_wordIndex_4

set_option maxHeartbeats 4000000 in
set_option maxRecDepth 100000 in
theorem mJ3_checkInvariants (l : Launch) (D : va_G) (dA : Nat → ClassId) (ad : Nat → Nat) (sz : Nat) (bs : Nat) : Met l yJ3_checkInvariants (ws_ yJ3_checkInvariants cJ3_checkInvariants 1 none) ({ frames := 0, cells := 0, slots := 0, locals := 0 }) (va_Pc [.ref bs] (zP D dA ad (fun q => sz ≤ q) sz (fun H => True))) (zQv (fun H => True) (fun q => sz ≤ q)) (0) (0) (fun q => sz ≤ q) := by
  refine Met.ofW (cc := cJ3_checkInvariants) (maxL := 1) (ret := none) (by decide) rfl ?_
  intro p e s m args below meth c s₁ B hml hv
  obtain ⟨rfl, hsz, hC, hP⟩ := hv
  have hx := B.exec
  have hb := B.bytes
  have hr := B.returns
  have hts := atoms_spec (ws := ws_ yJ3_checkInvariants cJ3_checkInvariants 1 none) B.pre
  have hts : ∀ w ∈ lw_all, w.before _ s = true := fun w h => hts w (List.mem_cons_of_mem _ h)
  have hown : s.vm.findClass RJ3 = some m.cls := findClass_of_methodNamed B.named
  have hlocks := B.notSynchronized
  subst hsz
  have hK := hC.K
  have hA : ∀ q : Nat, s.heap.size ≤ q → s.heap.size ≤ q := fun _ h => h
  have hS : va_S (fun q => s.heap.size ≤ q) s.heap s.heap [] := va_S.rf
  have hP : va_P D vwCl [] s.heap := va_Pnil
  have hl := lv_entry ([.ref bs]) (n := 1) (Nat.le_of_ble_eq_true rfl)
  rw [lg_entry_eq]
  generalize (lg_sl ([.ref bs]) ++ List.replicate (1 - (lg_sl ([.ref bs])).length) Slot.unset).toArray = ls at hl ⊢
  have hl : lv_has ls 1 [(0, .ref bs)] := hl
  refine va_gets (v := .int (nI (1))) hx hb hC.zB hS hown (hts _ q446) (fun _ h9 => h9) dJ3_checkInvariants_0 ?_
  refine lv_if_ne (tgt := 37) hx hb dJ3_checkInvariants_3 (by decide) (fun c_1 => ?_) (fun c_1 => ?_)
  · refine va_gets (v := .int (nI (1))) hx hb hC.zB hS hown (hts _ q446) (fun _ h9 => h9) dJ3_checkInvariants_37 ?_
    refine lv_if_ne (tgt := 70) hx hb dJ3_checkInvariants_40 (by decide) (fun c_2 => ?_) (fun c_2 => ?_)
    · refine va_gets (v := .int (nI (1))) hx hb hC.zB hS hown (hts _ q446) (fun _ h9 => h9) dJ3_checkInvariants_70 ?_
      refine lv_if_ne (tgt := 110) hx hb dJ3_checkInvariants_73 (by decide) (fun c_3 => ?_) (fun c_3 => ?_)
      · exact z_vret hx hb hr hS (trivial) (by omega) (by omega) dJ3_checkInvariants_110
      · exact absurd c_3 (by decide)
    · exact absurd c_2 (by decide)
  · exact absurd c_1 (by decide)

set_option maxHeartbeats 4000000 in
set_option maxRecDepth 100000 in
theorem mJ3_initWords (l : Launch) (D : va_G) (dA : Nat → ClassId) (ad : Nat → Nat) (A : Nat → Prop) (sz : Nat) (bs : Nat) (x0 : Option Nat) (x1 : Int32) (x2 : Int32) (hA : ∀ q, sz ≤ q → A q) (hD : va_D A [(bs, .inr (10, [va_rf x0, .int x1, .int x2]))]) : Met l yJ3_initWords (ws_ yJ3_initWords cJ3_initWords 2 none) ({ frames := 1, cells := 1, slots := 2, locals := 30 }) (va_Pc [.ref bs, .int (nI (101))] (zP D dA ad A sz (fun H => va_P D vwCl [(bs, .inr (10, [va_rf x0, .int x1, .int x2]))] H))) (zQv (fun H => ∃ bw : Nat, True ∧ va_P D vwCl [(bs, .inr (10, [.ref bw, .int x1, .int x2])), (bw, .inl (dA 1, 2, .inr (.inl (lwd 0))))] H ∧ va_D A [(bs, .inr (10, [.ref bw, .int x1, .int x2])), (bw, .inl (dA 1, 2, .inr (.inl (lwd 0))))]) A) (1) (2) A := by
  refine Met.ofW (cc := cJ3_initWords) (maxL := 2) (ret := none) (by decide) rfl ?_
  intro p e s m args below meth c s₁ B hml hv
  obtain ⟨rfl, hsz, hC, hP⟩ := hv
  have hx := B.exec
  have hb := B.bytes
  have hr := B.returns
  have hts := atoms_spec (ws := ws_ yJ3_initWords cJ3_initWords 2 none) B.pre
  have hts : ∀ w ∈ lw_all, w.before _ s = true := fun w h => hts w (List.mem_cons_of_mem _ h)
  have hown : s.vm.findClass RJ3 = some m.cls := findClass_of_methodNamed B.named
  have hlocks := B.notSynchronized
  subst hsz
  have hK := hC.K
  have hS : va_S A s.heap s.heap [] := va_S.rf
  have hP : va_P D vwCl [(bs, .inr (10, [va_rf x0, .int x1, .int x2]))] s.heap := hP
  have hl := lv_entry ([.ref bs, .int (nI (101))]) (n := 2) (Nat.le_of_ble_eq_true rfl)
  rw [lg_entry_eq]
  generalize (lg_sl ([.ref bs, .int (nI (101))]) ++ List.replicate (2 - (lg_sl ([.ref bs, .int (nI (101))])).length) Slot.unset).toArray = ls at hl ⊢
  have hl : lv_has ls 2 [(0, .ref bs), (1, .int (nI (101)))] := hl
  refine lv_aload_n hx hb dJ3_initWords_0 rfl (lv_at hl 0 rfl) ?_
  refine lv_iload_n hx hb dJ3_initWords_1 rfl (lv_at hl 1 rfl) ?_
  refine lv_iconst (v := nI (1)) hx hb dJ3_initWords_2 (by decide) ?_
  refine lv_isub hx hb dJ3_initWords_3 ?_
  refine lv_tope (y := nI (100)) (by decide) ?_
  refine z_cSi (As := [.int (nI (100))]) (rest := [.ref bs]) ⟨hx, hb, hml, hown, hts⟩ (mJ3_wordIndex l D dA ad s.heap.size 100 (by omega)) (va_cwS 1 hts (lw_S q157 q158 q61 q159) rfl rfl rfl (by decide +kernel) ⟨Nat.le_of_ble_eq_true rfl, Nat.le_of_ble_eq_true rfl⟩) hC hS (fun _ h => hA _ (Nat.le_trans hS.1 h)) trivial rfl rfl hl.1 (Nat.le_of_ble_eq_true rfl) dJ3_initWords_4 ⟨Nat.le_of_ble_eq_true rfl, Nat.le_of_ble_eq_true rfl⟩ (fun r_1 H locs hQ hF hS => ?_)
  have hP := va_P.ro hF hP
  obtain rfl : nI (100 / 64) = r_1 := hQ.symm
  refine lv_iconst (v := nI (1)) hx hb dJ3_initWords_7 (by decide) ?_
  refine lv_tope (y := nI (1)) (by decide) ?_
  refine lv_iadd hx hb dJ3_initWords_8 ?_
  refine lv_tope (y := nI ((100 / 64) + 1)) (nI_add _ _) ?_
  refine z_newl hx hb (hts _ q170) hK hP hD hS hA (N := ((100 / 64) + 1)) (by first | omega | decide) (by first | exact Nat.le_of_ble_eq_true rfl | (show _ ≤ _; simp only [headSpec]; omega)) (by first | exact Nat.le_of_ble_eq_true rfl | (show _ ≤ _; simp only [headSpec]; omega)) dJ3_initWords_9 (fun qn H hP hD hS hz9 hk9 hq9 => ?_)
  have hP : va_P D vwCl [(bs, .inr (10, [va_rf x0, .int x1, .int x2])), (qn, .inl (dA 1, (100 / 64) + 1, .inr (.inl (fun _ => 0))))] H := hP
  have hD : va_D A [(bs, .inr (10, [va_rf x0, .int x1, .int x2])), (qn, .inl (dA 1, (100 / 64) + 1, .inr (.inl (fun _ => 0))))] := hD
  refine va_put (D := D) (ci := 10) (v := .ref qn) (ty := .array .long) (C := RJ3) (T := TJ3) (N := 3) hx hb hts in_J3 tyJ3 tyJ3_ok nmJ3 hown hK hP hD hS 0 rfl rfl 0 (by decide) (hts _ q160) (fun _ h9 => h9) rfl (by decide +kernel) rfl rfl (Nat.le_of_ble_eq_true rfl) dJ3_initWords_11 (fun H locs hP hD hS => ?_)
  have hP : va_P D vwCl [(bs, .inr (10, [.ref qn, .int x1, .int x2])), (qn, .inl (dA 1, (100 / 64) + 1, .inr (.inl (fun _ => 0))))] H := hP
  have hD : va_D A [(bs, .inr (10, [.ref qn, .int x1, .int x2])), (qn, .inl (dA 1, (100 / 64) + 1, .inr (.inl (fun _ => 0))))] := hD
  rw [show (fun _ => 0 : Nat → Int64) = lwd 0 from lwd_z] at hP hD
  exact z_vret hx hb hr hS (⟨qn, trivial, hP, hD⟩) (by decide) (by decide) dJ3_initWords_14

set_option maxHeartbeats 4000000 in
set_option maxRecDepth 100000 in
theorem mJ3_init (l : Launch) (D : va_G) (dA : Nat → ClassId) (ad : Nat → Nat) (A : Nat → Prop) (sz : Nat) (bs : Nat) (x0 : Option Nat) (x1 : Int32) (x2 : Int32) (hA : ∀ q, sz ≤ q → A q) (hD : va_D A [(bs, .inr (10, [va_rf x0, .int x1, .int x2]))]) : Met l yJ3_init (ws_ yJ3_init cJ3_init 2 none) ({ frames := 2, cells := 1, slots := 2, locals := 60 }) (va_Pc [.ref bs, .int (nI (101))] (zP D dA ad A sz (fun H => va_P D vwCl [(bs, .inr (10, [va_rf x0, .int x1, .int x2]))] H))) (zQv (fun H => ∃ bw : Nat, True ∧ va_P D vwCl [(bs, .inr (10, [.ref bw, .int (nI (uOf 0)), .int (nI (1))])), (bw, .inl (dA 1, 2, .inr (.inl (lwd 0))))] H ∧ va_D A [(bs, .inr (10, [.ref bw, .int (nI (uOf 0)), .int (nI (1))])), (bw, .inl (dA 1, 2, .inr (.inl (lwd 0))))]) A) (1) (2) A := by
  refine Met.ofW (cc := cJ3_init) (maxL := 2) (ret := none) (by decide) rfl ?_
  intro p e s m args below meth c s₁ B hml hv
  obtain ⟨rfl, hsz, hC, hP⟩ := hv
  have hx := B.exec
  have hb := B.bytes
  have hr := B.returns
  have hts := atoms_spec (ws := ws_ yJ3_init cJ3_init 2 none) B.pre
  have hts : ∀ w ∈ lw_all, w.before _ s = true := fun w h => hts w (List.mem_cons_of_mem _ h)
  have hown : s.vm.findClass RJ3 = some m.cls := findClass_of_methodNamed B.named
  have hlocks := B.notSynchronized
  have hin : meth.name = "<init>" := (name_of_methodNamed B.named B.method).1
  subst hsz
  have hK := hC.K
  have hS : va_S A s.heap s.heap [] := va_S.rf
  have hP : va_P D vwCl [(bs, .inr (10, [va_rf x0, .int x1, .int x2]))] s.heap := hP
  have hl := lv_entry ([.ref bs, .int (nI (101))]) (n := 2) (Nat.le_of_ble_eq_true rfl)
  rw [lg_entry_eq]
  generalize (lg_sl ([.ref bs, .int (nI (101))]) ++ List.replicate (2 - (lg_sl ([.ref bs, .int (nI (101))])).length) Slot.unset).toArray = ls at hl ⊢
  have hl : lv_has ls 2 [(0, .ref bs), (1, .int (nI (101)))] := hl
  refine lv_aload_n hx hb dJ3_init_0 rfl (lv_at hl 0 rfl) ?_
  refine W.objInit hx hb hown (hts _ q152) (hts _ q92) (hts _ q93) rfl (by rw [hml]; exact hl.1) rfl dJ3_init_1 (Nat.le_of_ble_eq_true rfl) (Nat.le_of_ble_eq_true rfl) ?_
  refine W.eq (g2 := F0 m 4 ls []) rfl ?_
  refine lv_aload_n hx hb dJ3_init_4 rfl (lv_at hl 0 rfl) ?_
  refine lv_iconst (v := nI (0)) hx hb dJ3_init_5 (by decide) ?_
  refine va_put (D := D) (ci := 10) (v := .int (nI (0))) (ty := .int) (C := RJ3) (T := TJ3) (N := 3) hx hb hts in_J3 tyJ3 tyJ3_ok nmJ3 hown hK hP hD hS 0 rfl rfl 1 (by decide) (hts _ q161) (fun _ h9 => h9) rfl (by decide +kernel) rfl rfl (Nat.le_of_ble_eq_true rfl) dJ3_init_6 (fun H locs hP hD hS => ?_)
  have hP : va_P D vwCl [(bs, .inr (10, [va_rf x0, .int (nI (0)), .int x2]))] H := hP
  have hD : va_D A [(bs, .inr (10, [va_rf x0, .int (nI (0)), .int x2]))] := hD
  refine lv_aload_n hx hb dJ3_init_9 rfl (lv_at hl 0 rfl) ?_
  refine lv_iconst (v := nI (0)) hx hb dJ3_init_10 (by decide) ?_
  refine va_put (D := D) (ci := 10) (v := .int (nI (0))) (ty := .boolean) (C := RJ3) (T := TJ3) (N := 3) hx hb hts in_J3 tyJ3 tyJ3_ok nmJ3 hown hK hP hD hS 0 rfl rfl 2 (by decide) (hts _ q162) (fun _ h9 => h9) rfl (by decide +kernel) rfl rfl (Nat.le_of_ble_eq_true rfl) dJ3_init_11 (fun H locs hP hD hS => ?_)
  have hP : va_P D vwCl [(bs, .inr (10, [va_rf x0, .int (nI (0)), .int (nI (0))]))] H := hP
  have hD : va_D A [(bs, .inr (10, [va_rf x0, .int (nI (0)), .int (nI (0))]))] := hD
  refine lv_iload_n hx hb dJ3_init_14 rfl (lv_at hl 1 rfl) ?_
  refine lv_if_ge (tgt := 45) hx hb dJ3_init_15 (by decide) (fun c_1 => ?_) (fun c_1 => ?_)
  · refine lv_aload_n hx hb dJ3_init_45 rfl (lv_at hl 0 rfl) ?_
    refine lv_iload_n hx hb dJ3_init_46 rfl (lv_at hl 1 rfl) ?_
    refine z_cVv (As := [.int (nI (101))]) (rest := []) ⟨hx, hb, hml, hown, hts⟩ (mJ3_initWords l D dA ad A H.size bs x0 (nI (0)) (nI (0)) (hA_up hA hS) (hD.sub [0] (by decide) rfl)) (cwV 1 hts (lw_V q153 q155 qs0 q61 q156) rfl rfl rfl (by decide +kernel) ⟨Nat.le_of_ble_eq_true rfl, Nat.le_of_ble_eq_true rfl⟩) hC hS (fun _ h => h) (hP.sub (ws' := [(bs, .inr (10, [va_rf x0, .int (nI (0)), .int (nI (0))]))]) [0] rfl) (va_recv hK hP (ci := 10) (q0 := 0) rfl rfl) rfl rfl hl.1 (Nat.le_of_ble_eq_true rfl) dJ3_init_47 ⟨Nat.le_of_ble_eq_true rfl, Nat.le_of_ble_eq_true rfl⟩ (fun H locs hQ hF hS => ?_)
    obtain ⟨bw_3, hQ, hP1, hD1⟩ := hQ
    have hP := hP1
    have hD := hD1
    have hP : va_P D vwCl [(bs, .inr (10, [.ref bw_3, .int (nI (0)), .int (nI (0))])), (bw_3, .inl (dA 1, 2, .inr (.inl (lwd 0))))] H := hP
    have hD : va_D A [(bs, .inr (10, [.ref bw_3, .int (nI (0)), .int (nI (0))])), (bw_3, .inl (dA 1, 2, .inr (.inl (lwd 0))))] := hD
    refine lv_aload_n hx hb dJ3_init_50 rfl (lv_at hl 0 rfl) ?_
    refine lv_iconst (v := nI (1)) hx hb dJ3_init_51 (by decide) ?_
    refine va_put (D := D) (ci := 10) (v := .int (nI (1))) (ty := .boolean) (C := RJ3) (T := TJ3) (N := 3) hx hb hts in_J3 tyJ3 tyJ3_ok nmJ3 hown hK hP hD hS 0 rfl rfl 2 (by decide) (hts _ q162) (fun _ h9 => h9) rfl (by decide +kernel) rfl rfl (Nat.le_of_ble_eq_true rfl) dJ3_init_52 (fun H locs hP hD hS => ?_)
    have hP : va_P D vwCl [(bs, .inr (10, [.ref bw_3, .int (nI (0)), .int (nI (1))])), (bw_3, .inl (dA 1, 2, .inr (.inl (lwd 0))))] H := hP
    have hD : va_D A [(bs, .inr (10, [.ref bw_3, .int (nI (0)), .int (nI (1))])), (bw_3, .inl (dA 1, 2, .inr (.inl (lwd 0))))] := hD
    exact z_vret hx hb hr hS (⟨bw_3, trivial, hP, hD⟩) (by decide) (by decide) dJ3_init_55
  · exact absurd c_1 (by decide)

set_option maxHeartbeats 4000000 in
set_option maxRecDepth 100000 in
theorem mJ3_get (l : Launch) (D : va_G) (dA : Nat → ClassId) (ad : Nat → Nat) (sz : Nat) (bs : Nat) (bw : Nat) (stk : Int32) (Wb : Nat) (i : Nat) (hW : Wb < 2 ^ 101) (h1 : i < 128) : Met l yJ3_get (ws_ yJ3_get cJ3_get 3 (some .boolean)) ({ frames := 1, cells := 0, slots := 0, locals := 30 }) (va_Pc [.ref bs, .int (nI (i))] (zP D dA ad (fun q => sz ≤ q) sz (fun H => va_P D vwCl [(bs, .inr (10, [.ref bw, .int (nI (uOf Wb)), .int stk])), (bw, .inl (dA 1, 2, .inr (.inl (lwd Wb))))] H))) (zQi (fun rz H => rz = bI (Wb.testBit i = true)) (fun q => sz ≤ q)) (0) (0) (fun q => sz ≤ q) := by
  refine Met.ofW (cc := cJ3_get) (maxL := 3) (ret := (some .boolean)) (by decide) rfl ?_
  intro p e s m args below meth c s₁ B hml hv
  obtain ⟨rfl, hsz, hC, hP⟩ := hv
  have hx := B.exec
  have hb := B.bytes
  have hr := B.returns
  have hts := atoms_spec (ws := ws_ yJ3_get cJ3_get 3 (some .boolean)) B.pre
  have hts : ∀ w ∈ lw_all, w.before _ s = true := fun w h => hts w (List.mem_cons_of_mem _ h)
  have hown : s.vm.findClass RJ3 = some m.cls := findClass_of_methodNamed B.named
  have hlocks := B.notSynchronized
  subst hsz
  have hK := hC.K
  have hA : ∀ q : Nat, s.heap.size ≤ q → s.heap.size ≤ q := fun _ h => h
  have hS : va_S (fun q => s.heap.size ≤ q) s.heap s.heap [] := va_S.rf
  have hP : va_P D vwCl [(bs, .inr (10, [.ref bw, .int (nI (uOf Wb)), .int stk])), (bw, .inl (dA 1, 2, .inr (.inl (lwd Wb))))] s.heap := hP
  have hu := uOf_c Wb
  have hl := lv_entry ([.ref bs, .int (nI (i))]) (n := 3) (Nat.le_of_ble_eq_true rfl)
  rw [lg_entry_eq]
  generalize (lg_sl ([.ref bs, .int (nI (i))]) ++ List.replicate (3 - (lg_sl ([.ref bs, .int (nI (i))])).length) Slot.unset).toArray = ls at hl ⊢
  have hl : lv_has ls 3 [(0, .ref bs), (1, .int (nI (i)))] := hl
  refine lv_iload_n hx hb dJ3_get_0 rfl (lv_at hl 1 rfl) ?_
  refine lv_if_ge (tgt := 31) hx hb dJ3_get_1 (by decide) (fun c_1 => ?_) (fun c_1 => ?_)
  · refine lv_aload_n hx hb dJ3_get_31 rfl (lv_at hl 0 rfl) ?_
    refine z_cVv (As := []) (rest := []) ⟨hx, hb, hml, hown, hts⟩ (mJ3_checkInvariants l D dA ad s.heap.size bs) (cwV 0 hts (lw_V q442 q444 qs6 q61 q445) rfl rfl rfl (by decide +kernel) ⟨Nat.le_of_ble_eq_true rfl, Nat.le_of_ble_eq_true rfl⟩) hC hS (fun _ h => hA _ (Nat.le_trans hS.1 h)) trivial (va_recv hK hP (ci := 10) (q0 := 0) rfl rfl) rfl rfl hl.1 (Nat.le_of_ble_eq_true rfl) dJ3_get_32 ⟨Nat.le_of_ble_eq_true rfl, Nat.le_of_ble_eq_true rfl⟩ (fun H locs hQ hF hS => ?_)
    have hP := va_P.ro hF hP
    refine lv_iload_n hx hb dJ3_get_35 rfl (lv_at hl 1 rfl) ?_
    refine z_cSi (As := [.int (nI (i))]) (rest := []) ⟨hx, hb, hml, hown, hts⟩ (mJ3_wordIndex l D dA ad H.size i (by omega)) (va_cwS 1 hts (lw_S q157 q158 q61 q159) rfl rfl rfl (by decide +kernel) ⟨Nat.le_of_ble_eq_true rfl, Nat.le_of_ble_eq_true rfl⟩) hC hS (fun _ h => hA _ (Nat.le_trans hS.1 h)) trivial rfl rfl hl.1 (Nat.le_of_ble_eq_true rfl) dJ3_get_36 ⟨Nat.le_of_ble_eq_true rfl, Nat.le_of_ble_eq_true rfl⟩ (fun r_3 H locs hQ hF hS => ?_)
    have hP := va_P.ro hF hP
    obtain rfl : nI (i / 64) = r_3 := hQ.symm
    refine lv_istore_n (lv' := [(2, .int (nI (i / 64))), (0, .ref bs), (1, .int (nI (i)))]) hx hb dJ3_get_39 rfl hl (by decide) rfl (fun ls hl => ?_)
    refine lv_iload_n hx hb dJ3_get_40 rfl (lv_at hl 0 rfl) ?_
    refine lv_aload_n hx hb dJ3_get_41 rfl (lv_at hl 1 rfl) ?_
    refine va_get (D := D) (ci := 10) (v := .int (nI (uOf Wb))) (C := RJ3) (T := TJ3) (N := 3) hx hb hts in_J3 hown hK hP 0 rfl rfl 1 (by decide) (hts _ q161) (fun _ h9 => h9) rfl dJ3_get_42 ?_
    refine lv_icmp_ge (tgt := 67) hx hb dJ3_get_45 (by decide) (fun c_4 => ?_) (fun c_4 => ?_)
    · have c_4 := (nI_leI (by omega) (by omega)).1 c_4
      refine lv_iconst (v := nI (0)) hx hb dJ3_get_67 (by decide) ?_
      exact z_zret (v := nI (0)) hx hb hr (by first | rfl | decide) hS ((bI_f (by rw [bw_off hW c_4]; decide)).symm) (by omega) (by omega) dJ3_get_68
    · have c_4 := mt (nI_leI (by omega) (by omega)).2 c_4
      refine lv_aload_n hx hb dJ3_get_48 rfl (lv_at hl 1 rfl) ?_
      refine va_get (D := D) (ci := 10) (v := .ref bw) (C := RJ3) (T := TJ3) (N := 3) hx hb hts in_J3 hown hK hP 0 rfl rfl 0 (by decide) (hts _ q160) (fun _ h9 => h9) rfl dJ3_get_49 ?_
      refine lv_iload_n hx hb dJ3_get_52 rfl (lv_at hl 0 rfl) ?_
      refine va_lald hx hb hK hP 1 1 rfl rfl (vp_in_nI (by omega) (by omega)) dJ3_get_53 ?_
      refine lv_topel (y := (lwd Wb) (i / 64)) (by rw [nI_clamp (by omega)]) ?_
      refine lv_lconst (v := lN (1)) hx hb dJ3_get_54 (by decide) ?_
      refine lv_iload_n hx hb dJ3_get_55 rfl (lv_at hl 2 rfl) ?_
      refine lv_lshl (v := lN (2 ^ (i % 64))) hx hb dJ3_get_56 (bw_sh i h1) ?_
      refine lv_land hx hb dJ3_get_57 ?_
      refine lv_lconst (v := lN (0)) hx hb dJ3_get_58 (by decide) ?_
      refine W.lcmp hx hb dJ3_get_59 ?_
      refine lv_if_eq (tgt := 67) hx hb dJ3_get_60 (by decide) (fun c_5 => ?_) (fun c_5 => ?_)
      · have c_5 := (lg_cmp_eq _ _).1 c_5
        refine lv_iconst (v := nI (0)) hx hb dJ3_get_67 (by decide) ?_
        exact z_zret (v := nI (0)) hx hb hr (by first | rfl | decide) hS ((bI_f (by rw [(bw_bit h1 hW).1 c_5]; decide)).symm) (by omega) (by omega) dJ3_get_68
      · have c_5 := mt (lg_cmp_eq _ _).2 c_5
        refine lv_iconst (v := nI (1)) hx hb dJ3_get_63 (by decide) ?_
        refine lv_goto (tgt := 68) hx hb dJ3_get_64 (by decide) ?_
        exact z_zret (v := nI (1)) hx hb hr (by first | rfl | decide) hS ((bI_t (nbf (mt (bw_bit h1 hW).2 c_5))).symm) (by omega) (by omega) dJ3_get_68
  · exact absurd (nI_pos' (by omega)) c_1

set_option maxHeartbeats 4000000 in
set_option maxRecDepth 100000 in
theorem mJ3_ensureCapacity (l : Launch) (D : va_G) (dA : Nat → ClassId) (ad : Nat → Nat) (sz : Nat) (bs : Nat) (bw : Nat) (stk : Int32) (u : Nat) (f : Nat → Int64) (k : Nat) (h1 : k ≤ 2) : Met l yJ3_ensureCapacity (ws_ yJ3_ensureCapacity cJ3_ensureCapacity 3 none) ({ frames := 0, cells := 0, slots := 0, locals := 0 }) (va_Pc [.ref bs, .int (nI (k))] (zP D dA ad (fun q => sz ≤ q) sz (fun H => va_P D vwCl [(bs, .inr (10, [.ref bw, .int (nI (u)), .int stk])), (bw, .inl (dA 1, 2, .inr (.inl f)))] H))) (zQv (fun H => True) (fun q => sz ≤ q)) (0) (0) (fun q => sz ≤ q) := by
  refine Met.ofW (cc := cJ3_ensureCapacity) (maxL := 3) (ret := none) (by decide) rfl ?_
  intro p e s m args below meth c s₁ B hml hv
  obtain ⟨rfl, hsz, hC, hP⟩ := hv
  have hx := B.exec
  have hb := B.bytes
  have hr := B.returns
  have hts := atoms_spec (ws := ws_ yJ3_ensureCapacity cJ3_ensureCapacity 3 none) B.pre
  have hts : ∀ w ∈ lw_all, w.before _ s = true := fun w h => hts w (List.mem_cons_of_mem _ h)
  have hown : s.vm.findClass RJ3 = some m.cls := findClass_of_methodNamed B.named
  have hlocks := B.notSynchronized
  subst hsz
  have hK := hC.K
  have hA : ∀ q : Nat, s.heap.size ≤ q → s.heap.size ≤ q := fun _ h => h
  have hS : va_S (fun q => s.heap.size ≤ q) s.heap s.heap [] := va_S.rf
  have hP : va_P D vwCl [(bs, .inr (10, [.ref bw, .int (nI (u)), .int stk])), (bw, .inl (dA 1, 2, .inr (.inl f)))] s.heap := hP
  have hl := lv_entry ([.ref bs, .int (nI (k))]) (n := 3) (Nat.le_of_ble_eq_true rfl)
  rw [lg_entry_eq]
  generalize (lg_sl ([.ref bs, .int (nI (k))]) ++ List.replicate (3 - (lg_sl ([.ref bs, .int (nI (k))])).length) Slot.unset).toArray = ls at hl ⊢
  have hl : lv_has ls 3 [(0, .ref bs), (1, .int (nI (k)))] := hl
  refine lv_aload_n hx hb dJ3_ensureCapacity_0 rfl (lv_at hl 0 rfl) ?_
  refine va_get (D := D) (ci := 10) (v := .ref bw) (C := RJ3) (T := TJ3) (N := 3) hx hb hts in_J3 hown hK hP 0 rfl rfl 0 (by decide) (hts _ q160) (fun _ h9 => h9) rfl dJ3_ensureCapacity_1 ?_
  refine va_alen (v := nI (2)) hx hb hK hP 1 1 rfl rfl rfl dJ3_ensureCapacity_4 ?_
  refine lv_iload_n hx hb dJ3_ensureCapacity_5 rfl (lv_at hl 1 rfl) ?_
  refine lv_icmp_ge (tgt := 38) hx hb dJ3_ensureCapacity_6 (by decide) (fun c_1 => ?_) (fun c_1 => ?_)
  · have c_1 := (nI_leI (by omega) (by omega)).1 c_1
    exact z_vret hx hb hr hS (trivial) (by omega) (by omega) dJ3_ensureCapacity_38
  · have c_1 := mt (nI_leI (by omega) (by omega)).2 c_1
    omega

set_option maxHeartbeats 4000000 in
set_option maxRecDepth 100000 in
theorem mJ3_expandTo (l : Launch) (D : va_G) (dA : Nat → ClassId) (ad : Nat → Nat) (A : Nat → Prop) (sz : Nat) (bs : Nat) (bw : Nat) (stk : Int32) (u : Nat) (f : Nat → Int64) (k : Nat) (hA : ∀ q, sz ≤ q → A q) (h1 : k ≤ 1) (h2 : u ≤ 2) (hD : va_D A [(bs, .inr (10, [.ref bw, .int (nI (u)), .int stk])), (bw, .inl (dA 1, 2, .inr (.inl f)))]) : Met l yJ3_expandTo (ws_ yJ3_expandTo cJ3_expandTo 3 none) ({ frames := 1, cells := 0, slots := 0, locals := 30 }) (va_Pc [.ref bs, .int (nI (k))] (zP D dA ad A sz (fun H => va_P D vwCl [(bs, .inr (10, [.ref bw, .int (nI (u)), .int stk])), (bw, .inl (dA 1, 2, .inr (.inl f)))] H))) (zQv (fun H => True ∧ va_P D vwCl [(bs, .inr (10, [.ref bw, .int (nI (if u < k + 1 then k + 1 else u)), .int stk])), (bw, .inl (dA 1, 2, .inr (.inl f)))] H) A) (0) (0) A := by
  refine Met.ofW (cc := cJ3_expandTo) (maxL := 3) (ret := none) (by decide) rfl ?_
  intro p e s m args below meth c s₁ B hml hv
  obtain ⟨rfl, hsz, hC, hP⟩ := hv
  have hx := B.exec
  have hb := B.bytes
  have hr := B.returns
  have hts := atoms_spec (ws := ws_ yJ3_expandTo cJ3_expandTo 3 none) B.pre
  have hts : ∀ w ∈ lw_all, w.before _ s = true := fun w h => hts w (List.mem_cons_of_mem _ h)
  have hown : s.vm.findClass RJ3 = some m.cls := findClass_of_methodNamed B.named
  have hlocks := B.notSynchronized
  subst hsz
  have hK := hC.K
  have hS : va_S A s.heap s.heap [] := va_S.rf
  have hP : va_P D vwCl [(bs, .inr (10, [.ref bw, .int (nI (u)), .int stk])), (bw, .inl (dA 1, 2, .inr (.inl f)))] s.heap := hP
  have hl := lv_entry ([.ref bs, .int (nI (k))]) (n := 3) (Nat.le_of_ble_eq_true rfl)
  rw [lg_entry_eq]
  generalize (lg_sl ([.ref bs, .int (nI (k))]) ++ List.replicate (3 - (lg_sl ([.ref bs, .int (nI (k))])).length) Slot.unset).toArray = ls at hl ⊢
  have hl : lv_has ls 3 [(0, .ref bs), (1, .int (nI (k)))] := hl
  refine lv_iload_n hx hb dJ3_expandTo_0 rfl (lv_at hl 1 rfl) ?_
  refine lv_iconst (v := nI (1)) hx hb dJ3_expandTo_1 (by decide) ?_
  refine lv_iadd hx hb dJ3_expandTo_2 ?_
  refine lv_tope (y := nI (k + 1)) (nI_add _ _) ?_
  refine lv_istore_n (lv' := [(2, .int (nI (k + 1))), (0, .ref bs), (1, .int (nI (k)))]) hx hb dJ3_expandTo_3 rfl hl (by decide) rfl (fun ls hl => ?_)
  refine lv_aload_n hx hb dJ3_expandTo_4 rfl (lv_at hl 1 rfl) ?_
  refine va_get (D := D) (ci := 10) (v := .int (nI (u))) (C := RJ3) (T := TJ3) (N := 3) hx hb hts in_J3 hown hK hP 0 rfl rfl 1 (by decide) (hts _ q161) (fun _ h9 => h9) rfl dJ3_expandTo_5 ?_
  refine lv_iload_n hx hb dJ3_expandTo_8 rfl (lv_at hl 0 rfl) ?_
  refine lv_icmp_ge (tgt := 22) hx hb dJ3_expandTo_9 (by decide) (fun c_1 => ?_) (fun c_1 => ?_)
  · have c_1 := (nI_leI (by omega) (by omega)).1 c_1
    exact z_vret hx hb hr hS (⟨trivial, by rw [if_neg (by omega)]; exact hP⟩) (by omega) (by omega) dJ3_expandTo_22
  · have c_1 := mt (nI_leI (by omega) (by omega)).2 c_1
    refine lv_aload_n hx hb dJ3_expandTo_12 rfl (lv_at hl 1 rfl) ?_
    refine lv_iload_n hx hb dJ3_expandTo_13 rfl (lv_at hl 0 rfl) ?_
    refine z_cVv (As := [.int (nI (k + 1))]) (rest := []) ⟨hx, hb, hml, hown, hts⟩ (mJ3_ensureCapacity l D dA ad s.heap.size bs bw stk u f (k + 1) (by omega)) (cwV 1 hts (lw_V q426 q428 qs5 q61 q429) rfl rfl rfl (by decide +kernel) ⟨Nat.le_of_ble_eq_true rfl, Nat.le_of_ble_eq_true rfl⟩) hC hS (fun _ h => hA _ (Nat.le_trans hS.1 h)) (hP.sub (ws' := [(bs, .inr (10, [.ref bw, .int (nI (u)), .int stk])), (bw, .inl (dA 1, 2, .inr (.inl f)))]) [0, 1] rfl) (va_recv hK hP (ci := 10) (q0 := 0) rfl rfl) rfl rfl hl.1 (Nat.le_of_ble_eq_true rfl) dJ3_expandTo_14 ⟨Nat.le_of_ble_eq_true rfl, Nat.le_of_ble_eq_true rfl⟩ (fun H locs hQ hF hS => ?_)
    have hP := va_P.ro hF hP
    refine lv_aload_n hx hb dJ3_expandTo_17 rfl (lv_at hl 1 rfl) ?_
    refine lv_iload_n hx hb dJ3_expandTo_18 rfl (lv_at hl 0 rfl) ?_
    refine va_put (D := D) (ci := 10) (v := .int (nI (k + 1))) (ty := .int) (C := RJ3) (T := TJ3) (N := 3) hx hb hts in_J3 tyJ3 tyJ3_ok nmJ3 hown hK hP hD hS 0 rfl rfl 1 (by decide) (hts _ q161) (fun _ h9 => h9) rfl (by decide +kernel) rfl rfl (Nat.le_of_ble_eq_true rfl) dJ3_expandTo_19 (fun H locs hP hD hS => ?_)
    have hP : va_P D vwCl [(bs, .inr (10, [.ref bw, .int (nI (k + 1)), .int stk])), (bw, .inl (dA 1, 2, .inr (.inl f)))] H := hP
    have hD : va_D A [(bs, .inr (10, [.ref bw, .int (nI (k + 1)), .int stk])), (bw, .inl (dA 1, 2, .inr (.inl f)))] := hD
    exact z_vret hx hb hr hS (⟨trivial, by rw [if_pos (by omega)]; exact hP⟩) (by omega) (by omega) dJ3_expandTo_22

set_option maxHeartbeats 4000000 in
set_option maxRecDepth 100000 in
theorem mJ3_set (l : Launch) (D : va_G) (dA : Nat → ClassId) (ad : Nat → Nat) (A : Nat → Prop) (sz : Nat) (bs : Nat) (bw : Nat) (stk : Int32) (Wb : Nat) (i : Nat) (hA : ∀ q, sz ≤ q → A q) (hW : Wb < 2 ^ 101) (h1 : i < 101) (hD : va_D A [(bs, .inr (10, [.ref bw, .int (nI (uOf Wb)), .int stk])), (bw, .inl (dA 1, 2, .inr (.inl (lwd Wb))))]) : Met l yJ3_set (ws_ yJ3_set cJ3_set 3 none) ({ frames := 2, cells := 0, slots := 0, locals := 60 }) (va_Pc [.ref bs, .int (nI (i))] (zP D dA ad A sz (fun H => va_P D vwCl [(bs, .inr (10, [.ref bw, .int (nI (uOf Wb)), .int stk])), (bw, .inl (dA 1, 2, .inr (.inl (lwd Wb))))] H))) (zQv (fun H => True ∧ va_P D vwCl [(bs, .inr (10, [.ref bw, .int (nI (uOf (Wb ||| 2 ^ i))), .int stk])), (bw, .inl (dA 1, 2, .inr (.inl (lwd (Wb ||| 2 ^ i)))))] H) A) (0) (0) A := by
  refine Met.ofW (cc := cJ3_set) (maxL := 3) (ret := none) (by decide) rfl ?_
  intro p e s m args below meth c s₁ B hml hv
  obtain ⟨rfl, hsz, hC, hP⟩ := hv
  have hx := B.exec
  have hb := B.bytes
  have hr := B.returns
  have hts := atoms_spec (ws := ws_ yJ3_set cJ3_set 3 none) B.pre
  have hts : ∀ w ∈ lw_all, w.before _ s = true := fun w h => hts w (List.mem_cons_of_mem _ h)
  have hown : s.vm.findClass RJ3 = some m.cls := findClass_of_methodNamed B.named
  have hlocks := B.notSynchronized
  subst hsz
  have hK := hC.K
  have hS : va_S A s.heap s.heap [] := va_S.rf
  have hP : va_P D vwCl [(bs, .inr (10, [.ref bw, .int (nI (uOf Wb)), .int stk])), (bw, .inl (dA 1, 2, .inr (.inl (lwd Wb))))] s.heap := hP
  have hu := uOf_c Wb
  have hl := lv_entry ([.ref bs, .int (nI (i))]) (n := 3) (Nat.le_of_ble_eq_true rfl)
  rw [lg_entry_eq]
  generalize (lg_sl ([.ref bs, .int (nI (i))]) ++ List.replicate (3 - (lg_sl ([.ref bs, .int (nI (i))])).length) Slot.unset).toArray = ls at hl ⊢
  have hl : lv_has ls 3 [(0, .ref bs), (1, .int (nI (i)))] := hl
  refine lv_iload_n hx hb dJ3_set_0 rfl (lv_at hl 1 rfl) ?_
  refine lv_if_ge (tgt := 31) hx hb dJ3_set_1 (by decide) (fun c_1 => ?_) (fun c_1 => ?_)
  · refine lv_iload_n hx hb dJ3_set_31 rfl (lv_at hl 1 rfl) ?_
    refine z_cSi (As := [.int (nI (i))]) (rest := []) ⟨hx, hb, hml, hown, hts⟩ (mJ3_wordIndex l D dA ad s.heap.size i (by omega)) (va_cwS 1 hts (lw_S q157 q158 q61 q159) rfl rfl rfl (by decide +kernel) ⟨Nat.le_of_ble_eq_true rfl, Nat.le_of_ble_eq_true rfl⟩) hC hS (fun _ h => hA _ (Nat.le_trans hS.1 h)) trivial rfl rfl hl.1 (Nat.le_of_ble_eq_true rfl) dJ3_set_32 ⟨Nat.le_of_ble_eq_true rfl, Nat.le_of_ble_eq_true rfl⟩ (fun r_2 H locs hQ hF hS => ?_)
    have hP := va_P.ro hF hP
    obtain rfl : nI (i / 64) = r_2 := hQ.symm
    refine lv_istore_n (lv' := [(2, .int (nI (i / 64))), (0, .ref bs), (1, .int (nI (i)))]) hx hb dJ3_set_35 rfl hl (by decide) rfl (fun ls hl => ?_)
    refine lv_aload_n hx hb dJ3_set_36 rfl (lv_at hl 1 rfl) ?_
    refine lv_iload_n hx hb dJ3_set_37 rfl (lv_at hl 0 rfl) ?_
    refine z_cVv (As := [.int (nI (i / 64))]) (rest := []) ⟨hx, hb, hml, hown, hts⟩ (mJ3_expandTo l D dA ad A H.size bs bw stk (uOf Wb) (lwd Wb) (i / 64) (hA_up hA hS) (by omega) (by omega) (hD.sub [0, 1] (by decide) rfl)) (cwV 1 hts (lw_V q701 q703 qs10 q61 q704) rfl rfl rfl (by decide +kernel) ⟨Nat.le_of_ble_eq_true rfl, Nat.le_of_ble_eq_true rfl⟩) hC hS (fun _ h => h) (hP.sub (ws' := [(bs, .inr (10, [.ref bw, .int (nI (uOf Wb)), .int stk])), (bw, .inl (dA 1, 2, .inr (.inl (lwd Wb))))]) [0, 1] rfl) (va_recv hK hP (ci := 10) (q0 := 0) rfl rfl) rfl rfl hl.1 (Nat.le_of_ble_eq_true rfl) dJ3_set_38 ⟨Nat.le_of_ble_eq_true rfl, Nat.le_of_ble_eq_true rfl⟩ (fun H locs hQ hF hS => ?_)
    obtain ⟨hQ, hP⟩ := hQ
    have hD := va_D.same (ws' := [(bs, .inr (10, [.ref bw, .int (nI (if (uOf Wb) < (i / 64) + 1 then (i / 64) + 1 else (uOf Wb))), .int stk])), (bw, .inl (dA 1, 2, .inr (.inl (lwd Wb))))]) (hD.sub (ws' := [(bs, .inr (10, [.ref bw, .int (nI (uOf Wb)), .int stk])), (bw, .inl (dA 1, 2, .inr (.inl (lwd Wb))))]) [0, 1] (by decide) rfl) rfl
    have hP : va_P D vwCl [(bs, .inr (10, [.ref bw, .int (nI (if (uOf Wb) < (i / 64) + 1 then (i / 64) + 1 else (uOf Wb))), .int stk])), (bw, .inl (dA 1, 2, .inr (.inl (lwd Wb))))] H := hP
    have hD : va_D A [(bs, .inr (10, [.ref bw, .int (nI (if (uOf Wb) < (i / 64) + 1 then (i / 64) + 1 else (uOf Wb))), .int stk])), (bw, .inl (dA 1, 2, .inr (.inl (lwd Wb))))] := hD
    refine lv_aload_n hx hb dJ3_set_41 rfl (lv_at hl 1 rfl) ?_
    refine va_get (D := D) (ci := 10) (v := .ref bw) (C := RJ3) (T := TJ3) (N := 3) hx hb hts in_J3 hown hK hP 0 rfl rfl 0 (by decide) (hts _ q160) (fun _ h9 => h9) rfl dJ3_set_42 ?_
    refine lv_iload_n hx hb dJ3_set_45 rfl (lv_at hl 0 rfl) ?_
    refine lv_dup2_11 hx hb dJ3_set_46 rfl rfl ?_
    refine va_lald hx hb hK hP 1 1 rfl rfl (vp_in_nI (by omega) (by omega)) dJ3_set_47 ?_
    refine lv_topel (y := (lwd Wb) (i / 64)) (by rw [nI_clamp (by omega)]) ?_
    refine lv_lconst (v := lN (1)) hx hb dJ3_set_48 (by decide) ?_
    refine lv_iload_n hx hb dJ3_set_49 rfl (lv_at hl 2 rfl) ?_
    refine lv_lshl (v := lN (2 ^ (i % 64))) hx hb dJ3_set_50 (bw_sh i (by omega)) ?_
    refine lv_lor hx hb dJ3_set_51 ?_
    refine va_last hx hb hK hP hD hS 1 1 rfl rfl (vp_in_nI (by omega) (by omega)) dJ3_set_52 (fun H locs hP hD hS => ?_)
    rw [nI_clamp (by omega)] at hP hD
    have hP : va_P D vwCl [(bs, .inr (10, [.ref bw, .int (nI (if (uOf Wb) < (i / 64) + 1 then (i / 64) + 1 else (uOf Wb))), .int stk])), (bw, .inl (dA 1, 2, .inr (.inl (vp_updL (lwd Wb) (i / 64) (((lwd Wb) (i / 64)) ||| (lN (2 ^ (i % 64))))))))] H := hP
    have hD : va_D A [(bs, .inr (10, [.ref bw, .int (nI (if (uOf Wb) < (i / 64) + 1 then (i / 64) + 1 else (uOf Wb))), .int stk])), (bw, .inl (dA 1, 2, .inr (.inl (vp_updL (lwd Wb) (i / 64) (((lwd Wb) (i / 64)) ||| (lN (2 ^ (i % 64))))))))] := hD
    rw [show (vp_updL (lwd Wb) (i / 64) (((lwd Wb) (i / 64)) ||| (lN (2 ^ (i % 64)))) : Nat → Int64) = lwd (Wb ||| 2 ^ i) from bw_set (by omega) hW] at hP hD
    rw [bw_setu h1 hW] at hP hD
    have hP : va_P D vwCl [(bs, .inr (10, [.ref bw, .int (nI (uOf (Wb ||| 2 ^ i))), .int stk])), (bw, .inl (dA 1, 2, .inr (.inl (lwd (Wb ||| 2 ^ i)))))] H := hP
    have hD : va_D A [(bs, .inr (10, [.ref bw, .int (nI (uOf (Wb ||| 2 ^ i))), .int stk])), (bw, .inl (dA 1, 2, .inr (.inl (lwd (Wb ||| 2 ^ i)))))] := hD
    refine lv_aload_n hx hb dJ3_set_53 rfl (lv_at hl 1 rfl) ?_
    refine z_cVv (As := []) (rest := []) ⟨hx, hb, hml, hown, hts⟩ (mJ3_checkInvariants l D dA ad H.size bs) (cwV 0 hts (lw_V q442 q444 qs6 q61 q445) rfl rfl rfl (by decide +kernel) ⟨Nat.le_of_ble_eq_true rfl, Nat.le_of_ble_eq_true rfl⟩) hC hS (fun _ h => hA _ (Nat.le_trans hS.1 h)) trivial (va_recv hK hP (ci := 10) (q0 := 0) rfl rfl) rfl rfl hl.1 (Nat.le_of_ble_eq_true rfl) dJ3_set_54 ⟨Nat.le_of_ble_eq_true rfl, Nat.le_of_ble_eq_true rfl⟩ (fun H locs hQ hF hS => ?_)
    have hP := va_P.ro hF hP
    exact z_vret hx hb hr hS (⟨trivial, hP⟩) (by omega) (by omega) dJ3_set_57
  · exact absurd (nI_pos' (by omega)) c_1

set_option maxHeartbeats 4000000 in
set_option maxRecDepth 100000 in
theorem mJ3_cardinality (l : Launch) (D : va_G) (dA : Nat → ClassId) (ad : Nat → Nat) (sz : Nat) (bs : Nat) (bw : Nat) (stk : Int32) (Wb : Nat) (hW : Wb < 2 ^ 101) : Met l yJ3_cardinality (ws_ yJ3_cardinality cJ3_cardinality 3 (some .int)) ({ frames := 1, cells := 0, slots := 0, locals := 30 }) (va_Pc [.ref bs] (zP D dA ad (fun q => sz ≤ q) sz (fun H => va_P D vwCl [(bs, .inr (10, [.ref bw, .int (nI (uOf Wb)), .int stk])), (bw, .inl (dA 1, 2, .inr (.inl (lwd Wb))))] H))) (zQi (fun rz H => rz = nI (pcN Wb)) (fun q => sz ≤ q)) (0) (0) (fun q => sz ≤ q) := by
  refine Met.ofW (cc := cJ3_cardinality) (maxL := 3) (ret := (some .int)) (by decide) rfl ?_
  intro p e s m args below meth c s₁ B hml hv
  obtain ⟨rfl, hsz, hC, hP⟩ := hv
  have hx := B.exec
  have hb := B.bytes
  have hr := B.returns
  have hts := atoms_spec (ws := ws_ yJ3_cardinality cJ3_cardinality 3 (some .int)) B.pre
  have hts : ∀ w ∈ lw_all, w.before _ s = true := fun w h => hts w (List.mem_cons_of_mem _ h)
  have hown : s.vm.findClass RJ3 = some m.cls := findClass_of_methodNamed B.named
  have hlocks := B.notSynchronized
  subst hsz
  have hK := hC.K
  have hA : ∀ q : Nat, s.heap.size ≤ q → s.heap.size ≤ q := fun _ h => h
  have hS : va_S (fun q => s.heap.size ≤ q) s.heap s.heap [] := va_S.rf
  have hP : va_P D vwCl [(bs, .inr (10, [.ref bw, .int (nI (uOf Wb)), .int stk])), (bw, .inl (dA 1, 2, .inr (.inl (lwd Wb))))] s.heap := hP
  have hp := pcN_w hW
  have hm := Nat.mod_lt Wb (Nat.two_pow_pos 64)
  have hl := lv_entry ([.ref bs]) (n := 3) (Nat.le_of_ble_eq_true rfl)
  rw [lg_entry_eq]
  generalize (lg_sl ([.ref bs]) ++ List.replicate (3 - (lg_sl ([.ref bs])).length) Slot.unset).toArray = ls at hl ⊢
  have hl : lv_has ls 3 [(0, .ref bs)] := hl
  rcases uOf_c Wb with ⟨hu, hu2⟩ | ⟨hu, hu2, hu3⟩ | ⟨hu, hu2⟩
  · rw [hu] at hP
    have hP : va_P D vwCl [(bs, .inr (10, [.ref bw, .int (nI (0)), .int stk])), (bw, .inl (dA 1, 2, .inr (.inl (lwd Wb))))] _ := hP
    refine lv_iconst (v := nI (0)) hx hb dJ3_cardinality_0 (by decide) ?_
    refine lv_istore_n (lv' := [(1, .int (nI (0))), (0, .ref bs)]) hx hb dJ3_cardinality_1 rfl hl (by decide) rfl (fun ls hl => ?_)
    refine lv_iconst (v := nI (0)) hx hb dJ3_cardinality_2 (by decide) ?_
    refine lv_istore_n (lv' := [(2, .int (nI (0))), (1, .int (nI (0))), (0, .ref bs)]) hx hb dJ3_cardinality_3 rfl hl (by decide) rfl (fun ls hl => ?_)
    refine lv_iload_n hx hb dJ3_cardinality_4 rfl (lv_at hl 0 rfl) ?_
    refine lv_aload_n hx hb dJ3_cardinality_5 rfl (lv_at hl 2 rfl) ?_
    refine va_get (D := D) (ci := 10) (v := .int (nI (0))) (C := RJ3) (T := TJ3) (N := 3) hx hb hts in_J3 hown hK hP 0 rfl rfl 1 (by decide) (hts _ q161) (fun _ h9 => h9) rfl dJ3_cardinality_6 ?_
    refine lv_icmp_ge (tgt := 30) hx hb dJ3_cardinality_9 (by decide) (fun c_1 => ?_) (fun c_1 => ?_)
    · refine lv_iload_n hx hb dJ3_cardinality_30 rfl (lv_at hl 1 rfl) ?_
      exact z_iret (v := nI (0)) hx hb hr hS (by rw [hu2, pcN_0]) (by omega) (by omega) dJ3_cardinality_31
    · exact absurd c_1 (by decide)
  · rw [hu] at hP
    have hP : va_P D vwCl [(bs, .inr (10, [.ref bw, .int (nI (1)), .int stk])), (bw, .inl (dA 1, 2, .inr (.inl (lwd Wb))))] _ := hP
    refine lv_iconst (v := nI (0)) hx hb dJ3_cardinality_0 (by decide) ?_
    refine lv_istore_n (lv' := [(1, .int (nI (0))), (0, .ref bs)]) hx hb dJ3_cardinality_1 rfl hl (by decide) rfl (fun ls hl => ?_)
    refine lv_iconst (v := nI (0)) hx hb dJ3_cardinality_2 (by decide) ?_
    refine lv_istore_n (lv' := [(2, .int (nI (0))), (1, .int (nI (0))), (0, .ref bs)]) hx hb dJ3_cardinality_3 rfl hl (by decide) rfl (fun ls hl => ?_)
    refine lv_iload_n hx hb dJ3_cardinality_4 rfl (lv_at hl 0 rfl) ?_
    refine lv_aload_n hx hb dJ3_cardinality_5 rfl (lv_at hl 2 rfl) ?_
    refine va_get (D := D) (ci := 10) (v := .int (nI (1))) (C := RJ3) (T := TJ3) (N := 3) hx hb hts in_J3 hown hK hP 0 rfl rfl 1 (by decide) (hts _ q161) (fun _ h9 => h9) rfl dJ3_cardinality_6 ?_
    refine lv_icmp_ge (tgt := 30) hx hb dJ3_cardinality_9 (by decide) (fun c_2 => ?_) (fun c_2 => ?_)
    · exact absurd c_2 (by decide)
    · refine lv_iload_n hx hb dJ3_cardinality_12 rfl (lv_at hl 1 rfl) ?_
      refine lv_aload_n hx hb dJ3_cardinality_13 rfl (lv_at hl 2 rfl) ?_
      refine va_get (D := D) (ci := 10) (v := .ref bw) (C := RJ3) (T := TJ3) (N := 3) hx hb hts in_J3 hown hK hP 0 rfl rfl 0 (by decide) (hts _ q160) (fun _ h9 => h9) rfl dJ3_cardinality_14 ?_
      refine lv_iload_n hx hb dJ3_cardinality_17 rfl (lv_at hl 0 rfl) ?_
      refine va_lald hx hb hK hP 1 1 rfl rfl (vp_in_nI (by omega) (by omega)) dJ3_cardinality_18 ?_
      refine lv_topel (y := (lwd Wb) 0) (by rw [nI_clamp (by omega)]) ?_
      refine lv_topel (y := lN (Wb % 2 ^ 64)) (rfl) ?_
      refine z_cSi (As := [.long (lN (Wb % 2 ^ 64))]) (rest := [.int (nI (0))]) ⟨hx, hb, hml, hown, hts⟩ (mJ18_bitCount l D dA ad s.heap.size (Wb % 2 ^ 64) (by omega)) (va_cwS 1 hts (lw_S q709 q710 q81 q711) rfl rfl rfl (by decide +kernel) ⟨Nat.le_of_ble_eq_true rfl, Nat.le_of_ble_eq_true rfl⟩) hC hS (fun _ h => hA _ (Nat.le_trans hS.1 h)) trivial rfl rfl hl.1 (Nat.le_of_ble_eq_true rfl) dJ3_cardinality_19 ⟨Nat.le_of_ble_eq_true rfl, Nat.le_of_ble_eq_true rfl⟩ (fun r_3 H locs hQ hF hS => ?_)
      have hP := va_P.ro hF hP
      obtain rfl : nI (pc64 (Wb % 2 ^ 64)) = r_3 := hQ.symm
      refine lv_iadd hx hb dJ3_cardinality_22 ?_
      refine lv_tope (y := nI (0 + (pc64 (Wb % 2 ^ 64)))) (nI_add _ _) ?_
      refine lv_istore_n (lv' := [(1, .int (nI (0 + (pc64 (Wb % 2 ^ 64))))), (2, .int (nI (0))), (0, .ref bs)]) hx hb dJ3_cardinality_23 rfl hl (by decide) rfl (fun ls hl => ?_)
      refine lv_iinc (v := nI (1)) (lv' := [(2, .int (nI (1))), (1, .int (nI (0 + (pc64 (Wb % 2 ^ 64))))), (0, .ref bs)]) hx hb dJ3_cardinality_24 hl (k := 1) rfl (by decide) (by decide) rfl (fun ls hl => ?_)
      refine lv_goto (tgt := 4) hx hb dJ3_cardinality_27 (by decide) ?_
      refine lv_iload_n hx hb dJ3_cardinality_4 rfl (lv_at hl 0 rfl) ?_
      refine lv_aload_n hx hb dJ3_cardinality_5 rfl (lv_at hl 2 rfl) ?_
      refine va_get (D := D) (ci := 10) (v := .int (nI (1))) (C := RJ3) (T := TJ3) (N := 3) hx hb hts in_J3 hown hK hP 0 rfl rfl 1 (by decide) (hts _ q161) (fun _ h9 => h9) rfl dJ3_cardinality_6 ?_
      refine lv_icmp_ge (tgt := 30) hx hb dJ3_cardinality_9 (by decide) (fun c_4 => ?_) (fun c_4 => ?_)
      · refine lv_iload_n hx hb dJ3_cardinality_30 rfl (lv_at hl 1 rfl) ?_
        exact z_iret (v := nI (0 + (pc64 (Wb % 2 ^ 64)))) hx hb hr hS (by rw [Nat.zero_add, pcN_1 hu3]) (by omega) (by omega) dJ3_cardinality_31
      · exact absurd c_4 (by decide)
  · rw [hu] at hP
    have hP : va_P D vwCl [(bs, .inr (10, [.ref bw, .int (nI (2)), .int stk])), (bw, .inl (dA 1, 2, .inr (.inl (lwd Wb))))] _ := hP
    refine lv_iconst (v := nI (0)) hx hb dJ3_cardinality_0 (by decide) ?_
    refine lv_istore_n (lv' := [(1, .int (nI (0))), (0, .ref bs)]) hx hb dJ3_cardinality_1 rfl hl (by decide) rfl (fun ls hl => ?_)
    refine lv_iconst (v := nI (0)) hx hb dJ3_cardinality_2 (by decide) ?_
    refine lv_istore_n (lv' := [(2, .int (nI (0))), (1, .int (nI (0))), (0, .ref bs)]) hx hb dJ3_cardinality_3 rfl hl (by decide) rfl (fun ls hl => ?_)
    refine lv_iload_n hx hb dJ3_cardinality_4 rfl (lv_at hl 0 rfl) ?_
    refine lv_aload_n hx hb dJ3_cardinality_5 rfl (lv_at hl 2 rfl) ?_
    refine va_get (D := D) (ci := 10) (v := .int (nI (2))) (C := RJ3) (T := TJ3) (N := 3) hx hb hts in_J3 hown hK hP 0 rfl rfl 1 (by decide) (hts _ q161) (fun _ h9 => h9) rfl dJ3_cardinality_6 ?_
    refine lv_icmp_ge (tgt := 30) hx hb dJ3_cardinality_9 (by decide) (fun c_5 => ?_) (fun c_5 => ?_)
    · exact absurd c_5 (by decide)
    · refine lv_iload_n hx hb dJ3_cardinality_12 rfl (lv_at hl 1 rfl) ?_
      refine lv_aload_n hx hb dJ3_cardinality_13 rfl (lv_at hl 2 rfl) ?_
      refine va_get (D := D) (ci := 10) (v := .ref bw) (C := RJ3) (T := TJ3) (N := 3) hx hb hts in_J3 hown hK hP 0 rfl rfl 0 (by decide) (hts _ q160) (fun _ h9 => h9) rfl dJ3_cardinality_14 ?_
      refine lv_iload_n hx hb dJ3_cardinality_17 rfl (lv_at hl 0 rfl) ?_
      refine va_lald hx hb hK hP 1 1 rfl rfl (vp_in_nI (by omega) (by omega)) dJ3_cardinality_18 ?_
      refine lv_topel (y := (lwd Wb) 0) (by rw [nI_clamp (by omega)]) ?_
      refine lv_topel (y := lN (Wb % 2 ^ 64)) (rfl) ?_
      refine z_cSi (As := [.long (lN (Wb % 2 ^ 64))]) (rest := [.int (nI (0))]) ⟨hx, hb, hml, hown, hts⟩ (mJ18_bitCount l D dA ad s.heap.size (Wb % 2 ^ 64) (by omega)) (va_cwS 1 hts (lw_S q709 q710 q81 q711) rfl rfl rfl (by decide +kernel) ⟨Nat.le_of_ble_eq_true rfl, Nat.le_of_ble_eq_true rfl⟩) hC hS (fun _ h => hA _ (Nat.le_trans hS.1 h)) trivial rfl rfl hl.1 (Nat.le_of_ble_eq_true rfl) dJ3_cardinality_19 ⟨Nat.le_of_ble_eq_true rfl, Nat.le_of_ble_eq_true rfl⟩ (fun r_6 H locs hQ hF hS => ?_)
      have hP := va_P.ro hF hP
      obtain rfl : nI (pc64 (Wb % 2 ^ 64)) = r_6 := hQ.symm
      refine lv_iadd hx hb dJ3_cardinality_22 ?_
      refine lv_tope (y := nI (0 + (pc64 (Wb % 2 ^ 64)))) (nI_add _ _) ?_
      refine lv_istore_n (lv' := [(1, .int (nI (0 + (pc64 (Wb % 2 ^ 64))))), (2, .int (nI (0))), (0, .ref bs)]) hx hb dJ3_cardinality_23 rfl hl (by decide) rfl (fun ls hl => ?_)
      refine lv_iinc (v := nI (1)) (lv' := [(2, .int (nI (1))), (1, .int (nI (0 + (pc64 (Wb % 2 ^ 64))))), (0, .ref bs)]) hx hb dJ3_cardinality_24 hl (k := 1) rfl (by decide) (by decide) rfl (fun ls hl => ?_)
      refine lv_goto (tgt := 4) hx hb dJ3_cardinality_27 (by decide) ?_
      refine lv_iload_n hx hb dJ3_cardinality_4 rfl (lv_at hl 0 rfl) ?_
      refine lv_aload_n hx hb dJ3_cardinality_5 rfl (lv_at hl 2 rfl) ?_
      refine va_get (D := D) (ci := 10) (v := .int (nI (2))) (C := RJ3) (T := TJ3) (N := 3) hx hb hts in_J3 hown hK hP 0 rfl rfl 1 (by decide) (hts _ q161) (fun _ h9 => h9) rfl dJ3_cardinality_6 ?_
      refine lv_icmp_ge (tgt := 30) hx hb dJ3_cardinality_9 (by decide) (fun c_7 => ?_) (fun c_7 => ?_)
      · exact absurd c_7 (by decide)
      · refine lv_iload_n hx hb dJ3_cardinality_12 rfl (lv_at hl 1 rfl) ?_
        refine lv_aload_n hx hb dJ3_cardinality_13 rfl (lv_at hl 2 rfl) ?_
        refine va_get (D := D) (ci := 10) (v := .ref bw) (C := RJ3) (T := TJ3) (N := 3) hx hb hts in_J3 hown hK hP 0 rfl rfl 0 (by decide) (hts _ q160) (fun _ h9 => h9) rfl dJ3_cardinality_14 ?_
        refine lv_iload_n hx hb dJ3_cardinality_17 rfl (lv_at hl 0 rfl) ?_
        refine va_lald hx hb hK hP 1 1 rfl rfl (vp_in_nI (by omega) (by omega)) dJ3_cardinality_18 ?_
        refine lv_topel (y := (lwd Wb) 1) (by rw [nI_clamp (by omega)]) ?_
        refine lv_topel (y := lN (Wb / 2 ^ 64)) (rfl) ?_
        refine z_cSi (As := [.long (lN (Wb / 2 ^ 64))]) (rest := [.int (nI (0 + (pc64 (Wb % 2 ^ 64))))]) ⟨hx, hb, hml, hown, hts⟩ (mJ18_bitCount l D dA ad H.size (Wb / 2 ^ 64) (by omega)) (va_cwS 1 hts (lw_S q709 q710 q81 q711) rfl rfl rfl (by decide +kernel) ⟨Nat.le_of_ble_eq_true rfl, Nat.le_of_ble_eq_true rfl⟩) hC hS (fun _ h => hA _ (Nat.le_trans hS.1 h)) trivial rfl rfl hl.1 (Nat.le_of_ble_eq_true rfl) dJ3_cardinality_19 ⟨Nat.le_of_ble_eq_true rfl, Nat.le_of_ble_eq_true rfl⟩ (fun r_8 H locs hQ hF hS => ?_)
        have hP := va_P.ro hF hP
        obtain rfl : nI (pc64 (Wb / 2 ^ 64)) = r_8 := hQ.symm
        refine lv_iadd hx hb dJ3_cardinality_22 ?_
        refine lv_tope (y := nI ((0 + (pc64 (Wb % 2 ^ 64))) + (pc64 (Wb / 2 ^ 64)))) (nI_add _ _) ?_
        refine lv_istore_n (lv' := [(1, .int (nI ((0 + (pc64 (Wb % 2 ^ 64))) + (pc64 (Wb / 2 ^ 64))))), (2, .int (nI (1))), (0, .ref bs)]) hx hb dJ3_cardinality_23 rfl hl (by decide) rfl (fun ls hl => ?_)
        refine lv_iinc (v := nI (2)) (lv' := [(2, .int (nI (2))), (1, .int (nI ((0 + (pc64 (Wb % 2 ^ 64))) + (pc64 (Wb / 2 ^ 64))))), (0, .ref bs)]) hx hb dJ3_cardinality_24 hl (k := 1) rfl (by decide) (by decide) rfl (fun ls hl => ?_)
        refine lv_goto (tgt := 4) hx hb dJ3_cardinality_27 (by decide) ?_
        refine lv_iload_n hx hb dJ3_cardinality_4 rfl (lv_at hl 0 rfl) ?_
        refine lv_aload_n hx hb dJ3_cardinality_5 rfl (lv_at hl 2 rfl) ?_
        refine va_get (D := D) (ci := 10) (v := .int (nI (2))) (C := RJ3) (T := TJ3) (N := 3) hx hb hts in_J3 hown hK hP 0 rfl rfl 1 (by decide) (hts _ q161) (fun _ h9 => h9) rfl dJ3_cardinality_6 ?_
        refine lv_icmp_ge (tgt := 30) hx hb dJ3_cardinality_9 (by decide) (fun c_9 => ?_) (fun c_9 => ?_)
        · refine lv_iload_n hx hb dJ3_cardinality_30 rfl (lv_at hl 1 rfl) ?_
          exact z_iret (v := nI ((0 + (pc64 (Wb % 2 ^ 64))) + (pc64 (Wb / 2 ^ 64)))) hx hb hr hS (by rw [Nat.zero_add, hp]) (by omega) (by omega) dJ3_cardinality_31
        · exact absurd c_9 (by decide)

set_option maxHeartbeats 4000000 in
set_option maxRecDepth 100000 in
theorem mJ3_clear (l : Launch) (D : va_G) (dA : Nat → ClassId) (ad : Nat → Nat) (A : Nat → Prop) (sz : Nat) (bs : Nat) (bw : Nat) (stk : Int32) (Wb : Nat) (hA : ∀ q, sz ≤ q → A q) (hW : Wb < 2 ^ 101) (hD : va_D A [(bs, .inr (10, [.ref bw, .int (nI (uOf Wb)), .int stk])), (bw, .inl (dA 1, 2, .inr (.inl (lwd Wb))))]) : Met l yJ3_clear (ws_ yJ3_clear cJ3_clear 1 none) ({ frames := 0, cells := 0, slots := 0, locals := 0 }) (va_Pc [.ref bs] (zP D dA ad A sz (fun H => va_P D vwCl [(bs, .inr (10, [.ref bw, .int (nI (uOf Wb)), .int stk])), (bw, .inl (dA 1, 2, .inr (.inl (lwd Wb))))] H))) (zQv (fun H => True ∧ va_P D vwCl [(bs, .inr (10, [.ref bw, .int (nI (uOf 0)), .int stk])), (bw, .inl (dA 1, 2, .inr (.inl (lwd 0))))] H) A) (0) (0) A := by
  refine Met.ofW (cc := cJ3_clear) (maxL := 1) (ret := none) (by decide) rfl ?_
  intro p e s m args below meth c s₁ B hml hv
  obtain ⟨rfl, hsz, hC, hP⟩ := hv
  have hx := B.exec
  have hb := B.bytes
  have hr := B.returns
  have hts := atoms_spec (ws := ws_ yJ3_clear cJ3_clear 1 none) B.pre
  have hts : ∀ w ∈ lw_all, w.before _ s = true := fun w h => hts w (List.mem_cons_of_mem _ h)
  have hown : s.vm.findClass RJ3 = some m.cls := findClass_of_methodNamed B.named
  have hlocks := B.notSynchronized
  subst hsz
  have hK := hC.K
  have hS : va_S A s.heap s.heap [] := va_S.rf
  have hP : va_P D vwCl [(bs, .inr (10, [.ref bw, .int (nI (uOf Wb)), .int stk])), (bw, .inl (dA 1, 2, .inr (.inl (lwd Wb))))] s.heap := hP
  have hm := Nat.mod_lt Wb (Nat.two_pow_pos 64)
  have hl := lv_entry ([.ref bs]) (n := 1) (Nat.le_of_ble_eq_true rfl)
  rw [lg_entry_eq]
  generalize (lg_sl ([.ref bs]) ++ List.replicate (1 - (lg_sl ([.ref bs])).length) Slot.unset).toArray = ls at hl ⊢
  have hl : lv_has ls 1 [(0, .ref bs)] := hl
  rcases uOf_c Wb with ⟨hu, hu2⟩ | ⟨hu, hu2, hu3⟩ | ⟨hu, hu2⟩
  · rw [hu] at hP hD
    have hP : va_P D vwCl [(bs, .inr (10, [.ref bw, .int (nI (0)), .int stk])), (bw, .inl (dA 1, 2, .inr (.inl (lwd Wb))))] s.heap := hP
    have hD : va_D A [(bs, .inr (10, [.ref bw, .int (nI (0)), .int stk])), (bw, .inl (dA 1, 2, .inr (.inl (lwd Wb))))] := hD
    refine lv_aload_n hx hb dJ3_clear_0 rfl (lv_at hl 0 rfl) ?_
    refine va_get (D := D) (ci := 10) (v := .int (nI (0))) (C := RJ3) (T := TJ3) (N := 3) hx hb hts in_J3 hown hK hP 0 rfl rfl 1 (by decide) (hts _ q161) (fun _ h9 => h9) rfl dJ3_clear_1 ?_
    refine lv_if_le (tgt := 27) hx hb dJ3_clear_4 (by decide) (fun c_1 => ?_) (fun c_1 => ?_)
    · exact z_vret hx hb hr hS (⟨trivial, by rw [hu2] at hP; exact hP⟩) (by omega) (by omega) dJ3_clear_27
    · exact absurd c_1 (by decide)
  · rw [hu] at hP hD
    have hP : va_P D vwCl [(bs, .inr (10, [.ref bw, .int (nI (1)), .int stk])), (bw, .inl (dA 1, 2, .inr (.inl (lwd Wb))))] s.heap := hP
    have hD : va_D A [(bs, .inr (10, [.ref bw, .int (nI (1)), .int stk])), (bw, .inl (dA 1, 2, .inr (.inl (lwd Wb))))] := hD
    refine lv_aload_n hx hb dJ3_clear_0 rfl (lv_at hl 0 rfl) ?_
    refine va_get (D := D) (ci := 10) (v := .int (nI (1))) (C := RJ3) (T := TJ3) (N := 3) hx hb hts in_J3 hown hK hP 0 rfl rfl 1 (by decide) (hts _ q161) (fun _ h9 => h9) rfl dJ3_clear_1 ?_
    refine lv_if_le (tgt := 27) hx hb dJ3_clear_4 (by decide) (fun c_2 => ?_) (fun c_2 => ?_)
    · exact absurd c_2 (by decide)
    · refine lv_aload_n hx hb dJ3_clear_7 rfl (lv_at hl 0 rfl) ?_
      refine va_get (D := D) (ci := 10) (v := .ref bw) (C := RJ3) (T := TJ3) (N := 3) hx hb hts in_J3 hown hK hP 0 rfl rfl 0 (by decide) (hts _ q160) (fun _ h9 => h9) rfl dJ3_clear_8 ?_
      refine lv_aload_n hx hb dJ3_clear_11 rfl (lv_at hl 0 rfl) ?_
      refine lv_dup hx hb dJ3_clear_12 rfl ?_
      refine va_get (D := D) (ci := 10) (v := .int (nI (1))) (C := RJ3) (T := TJ3) (N := 3) hx hb hts in_J3 hown hK hP 0 rfl rfl 1 (by decide) (hts _ q161) (fun _ h9 => h9) rfl dJ3_clear_13 ?_
      refine lv_iconst (v := nI (1)) hx hb dJ3_clear_16 (by decide) ?_
      refine lv_isub hx hb dJ3_clear_17 ?_
      refine lv_tope (y := nI (0)) (by decide) ?_
      refine lv_dup_x1 hx hb dJ3_clear_18 rfl rfl ?_
      refine va_put (D := D) (ci := 10) (v := .int (nI (0))) (ty := .int) (C := RJ3) (T := TJ3) (N := 3) hx hb hts in_J3 tyJ3 tyJ3_ok nmJ3 hown hK hP hD hS 0 rfl rfl 1 (by decide) (hts _ q161) (fun _ h9 => h9) rfl (by decide +kernel) rfl rfl (Nat.le_of_ble_eq_true rfl) dJ3_clear_19 (fun H locs hP hD hS => ?_)
      have hP : va_P D vwCl [(bs, .inr (10, [.ref bw, .int (nI (0)), .int stk])), (bw, .inl (dA 1, 2, .inr (.inl (lwd Wb))))] H := hP
      have hD : va_D A [(bs, .inr (10, [.ref bw, .int (nI (0)), .int stk])), (bw, .inl (dA 1, 2, .inr (.inl (lwd Wb))))] := hD
      refine lv_lconst (v := lN (0)) hx hb dJ3_clear_22 (by decide) ?_
      refine va_last hx hb hK hP hD hS 1 1 rfl rfl (vp_in_nI (by omega) (by omega)) dJ3_clear_23 (fun H locs hP hD hS => ?_)
      rw [nI_clamp (by omega)] at hP hD
      have hP : va_P D vwCl [(bs, .inr (10, [.ref bw, .int (nI (0)), .int stk])), (bw, .inl (dA 1, 2, .inr (.inl (vp_updL (lwd Wb) 0 (lN (0))))))] H := hP
      have hD : va_D A [(bs, .inr (10, [.ref bw, .int (nI (0)), .int stk])), (bw, .inl (dA 1, 2, .inr (.inl (vp_updL (lwd Wb) 0 (lN (0))))))] := hD
      rw [show (vp_updL (lwd Wb) 0 (lN (0)) : Nat → Int64) = lwd 0 from lwd_c0 hu3] at hP hD
      refine lv_goto (tgt := 0) hx hb dJ3_clear_24 (by decide) ?_
      refine lv_aload_n hx hb dJ3_clear_0 rfl (lv_at hl 0 rfl) ?_
      refine va_get (D := D) (ci := 10) (v := .int (nI (0))) (C := RJ3) (T := TJ3) (N := 3) hx hb hts in_J3 hown hK hP 0 rfl rfl 1 (by decide) (hts _ q161) (fun _ h9 => h9) rfl dJ3_clear_1 ?_
      refine lv_if_le (tgt := 27) hx hb dJ3_clear_4 (by decide) (fun c_3 => ?_) (fun c_3 => ?_)
      · exact z_vret hx hb hr hS (⟨trivial, hP⟩) (by omega) (by omega) dJ3_clear_27
      · exact absurd c_3 (by decide)
  · rw [hu] at hP hD
    have hP : va_P D vwCl [(bs, .inr (10, [.ref bw, .int (nI (2)), .int stk])), (bw, .inl (dA 1, 2, .inr (.inl (lwd Wb))))] s.heap := hP
    have hD : va_D A [(bs, .inr (10, [.ref bw, .int (nI (2)), .int stk])), (bw, .inl (dA 1, 2, .inr (.inl (lwd Wb))))] := hD
    refine lv_aload_n hx hb dJ3_clear_0 rfl (lv_at hl 0 rfl) ?_
    refine va_get (D := D) (ci := 10) (v := .int (nI (2))) (C := RJ3) (T := TJ3) (N := 3) hx hb hts in_J3 hown hK hP 0 rfl rfl 1 (by decide) (hts _ q161) (fun _ h9 => h9) rfl dJ3_clear_1 ?_
    refine lv_if_le (tgt := 27) hx hb dJ3_clear_4 (by decide) (fun c_4 => ?_) (fun c_4 => ?_)
    · exact absurd c_4 (by decide)
    · refine lv_aload_n hx hb dJ3_clear_7 rfl (lv_at hl 0 rfl) ?_
      refine va_get (D := D) (ci := 10) (v := .ref bw) (C := RJ3) (T := TJ3) (N := 3) hx hb hts in_J3 hown hK hP 0 rfl rfl 0 (by decide) (hts _ q160) (fun _ h9 => h9) rfl dJ3_clear_8 ?_
      refine lv_aload_n hx hb dJ3_clear_11 rfl (lv_at hl 0 rfl) ?_
      refine lv_dup hx hb dJ3_clear_12 rfl ?_
      refine va_get (D := D) (ci := 10) (v := .int (nI (2))) (C := RJ3) (T := TJ3) (N := 3) hx hb hts in_J3 hown hK hP 0 rfl rfl 1 (by decide) (hts _ q161) (fun _ h9 => h9) rfl dJ3_clear_13 ?_
      refine lv_iconst (v := nI (1)) hx hb dJ3_clear_16 (by decide) ?_
      refine lv_isub hx hb dJ3_clear_17 ?_
      refine lv_tope (y := nI (1)) (by decide) ?_
      refine lv_dup_x1 hx hb dJ3_clear_18 rfl rfl ?_
      refine va_put (D := D) (ci := 10) (v := .int (nI (1))) (ty := .int) (C := RJ3) (T := TJ3) (N := 3) hx hb hts in_J3 tyJ3 tyJ3_ok nmJ3 hown hK hP hD hS 0 rfl rfl 1 (by decide) (hts _ q161) (fun _ h9 => h9) rfl (by decide +kernel) rfl rfl (Nat.le_of_ble_eq_true rfl) dJ3_clear_19 (fun H locs hP hD hS => ?_)
      have hP : va_P D vwCl [(bs, .inr (10, [.ref bw, .int (nI (1)), .int stk])), (bw, .inl (dA 1, 2, .inr (.inl (lwd Wb))))] H := hP
      have hD : va_D A [(bs, .inr (10, [.ref bw, .int (nI (1)), .int stk])), (bw, .inl (dA 1, 2, .inr (.inl (lwd Wb))))] := hD
      refine lv_lconst (v := lN (0)) hx hb dJ3_clear_22 (by decide) ?_
      refine va_last hx hb hK hP hD hS 1 1 rfl rfl (vp_in_nI (by omega) (by omega)) dJ3_clear_23 (fun H locs hP hD hS => ?_)
      rw [nI_clamp (by omega)] at hP hD
      have hP : va_P D vwCl [(bs, .inr (10, [.ref bw, .int (nI (1)), .int stk])), (bw, .inl (dA 1, 2, .inr (.inl (vp_updL (lwd Wb) 1 (lN (0))))))] H := hP
      have hD : va_D A [(bs, .inr (10, [.ref bw, .int (nI (1)), .int stk])), (bw, .inl (dA 1, 2, .inr (.inl (vp_updL (lwd Wb) 1 (lN (0))))))] := hD
      rw [show (vp_updL (lwd Wb) 1 (lN (0)) : Nat → Int64) = lwd (Wb % 2 ^ 64) from lwd_c1] at hP hD
      refine lv_goto (tgt := 0) hx hb dJ3_clear_24 (by decide) ?_
      refine lv_aload_n hx hb dJ3_clear_0 rfl (lv_at hl 0 rfl) ?_
      refine va_get (D := D) (ci := 10) (v := .int (nI (1))) (C := RJ3) (T := TJ3) (N := 3) hx hb hts in_J3 hown hK hP 0 rfl rfl 1 (by decide) (hts _ q161) (fun _ h9 => h9) rfl dJ3_clear_1 ?_
      refine lv_if_le (tgt := 27) hx hb dJ3_clear_4 (by decide) (fun c_5 => ?_) (fun c_5 => ?_)
      · exact absurd c_5 (by decide)
      · refine lv_aload_n hx hb dJ3_clear_7 rfl (lv_at hl 0 rfl) ?_
        refine va_get (D := D) (ci := 10) (v := .ref bw) (C := RJ3) (T := TJ3) (N := 3) hx hb hts in_J3 hown hK hP 0 rfl rfl 0 (by decide) (hts _ q160) (fun _ h9 => h9) rfl dJ3_clear_8 ?_
        refine lv_aload_n hx hb dJ3_clear_11 rfl (lv_at hl 0 rfl) ?_
        refine lv_dup hx hb dJ3_clear_12 rfl ?_
        refine va_get (D := D) (ci := 10) (v := .int (nI (1))) (C := RJ3) (T := TJ3) (N := 3) hx hb hts in_J3 hown hK hP 0 rfl rfl 1 (by decide) (hts _ q161) (fun _ h9 => h9) rfl dJ3_clear_13 ?_
        refine lv_iconst (v := nI (1)) hx hb dJ3_clear_16 (by decide) ?_
        refine lv_isub hx hb dJ3_clear_17 ?_
        refine lv_tope (y := nI (0)) (by decide) ?_
        refine lv_dup_x1 hx hb dJ3_clear_18 rfl rfl ?_
        refine va_put (D := D) (ci := 10) (v := .int (nI (0))) (ty := .int) (C := RJ3) (T := TJ3) (N := 3) hx hb hts in_J3 tyJ3 tyJ3_ok nmJ3 hown hK hP hD hS 0 rfl rfl 1 (by decide) (hts _ q161) (fun _ h9 => h9) rfl (by decide +kernel) rfl rfl (Nat.le_of_ble_eq_true rfl) dJ3_clear_19 (fun H locs hP hD hS => ?_)
        have hP : va_P D vwCl [(bs, .inr (10, [.ref bw, .int (nI (0)), .int stk])), (bw, .inl (dA 1, 2, .inr (.inl (lwd (Wb % 2 ^ 64)))))] H := hP
        have hD : va_D A [(bs, .inr (10, [.ref bw, .int (nI (0)), .int stk])), (bw, .inl (dA 1, 2, .inr (.inl (lwd (Wb % 2 ^ 64)))))] := hD
        refine lv_lconst (v := lN (0)) hx hb dJ3_clear_22 (by decide) ?_
        refine va_last hx hb hK hP hD hS 1 1 rfl rfl (vp_in_nI (by omega) (by omega)) dJ3_clear_23 (fun H locs hP hD hS => ?_)
        rw [nI_clamp (by omega)] at hP hD
        have hP : va_P D vwCl [(bs, .inr (10, [.ref bw, .int (nI (0)), .int stk])), (bw, .inl (dA 1, 2, .inr (.inl (vp_updL (lwd (Wb % 2 ^ 64)) 0 (lN (0))))))] H := hP
        have hD : va_D A [(bs, .inr (10, [.ref bw, .int (nI (0)), .int stk])), (bw, .inl (dA 1, 2, .inr (.inl (vp_updL (lwd (Wb % 2 ^ 64)) 0 (lN (0))))))] := hD
        rw [show (vp_updL (lwd (Wb % 2 ^ 64)) 0 (lN (0)) : Nat → Int64) = lwd 0 from lwd_c0 hm] at hP hD
        refine lv_goto (tgt := 0) hx hb dJ3_clear_24 (by decide) ?_
        refine lv_aload_n hx hb dJ3_clear_0 rfl (lv_at hl 0 rfl) ?_
        refine va_get (D := D) (ci := 10) (v := .int (nI (0))) (C := RJ3) (T := TJ3) (N := 3) hx hb hts in_J3 hown hK hP 0 rfl rfl 1 (by decide) (hts _ q161) (fun _ h9 => h9) rfl dJ3_clear_1 ?_
        refine lv_if_le (tgt := 27) hx hb dJ3_clear_4 (by decide) (fun c_6 => ?_) (fun c_6 => ?_)
        · exact z_vret hx hb hr hS (⟨trivial, hP⟩) (by omega) (by omega) dJ3_clear_27
        · exact absurd c_6 (by decide)
