set_option maxHeartbeats 4000000 in
set_option maxRecDepth 100000 in
theorem mJ0_initQ (l : Launch) (D : va_G) (dA : Nat → ClassId) (ad : Nat → Nat) (A : Nat → Prop) (sz : Nat) (dq : Nat) (x0 : Option Nat) (x1 : Int32) (x2 : Int32) (hA : ∀ q, sz ≤ q → A q) (hD : va_D A [(dq, .inr (11, [va_rf x0, .int x1, .int x2]))]) : Met l yJ0_init (ws_ yJ0_init cJ0_init 1 none) ({ frames := 1, cells := 0, slots := 0, locals := 15 }) (va_Pc [.ref dq] (zP D dA ad A sz (fun H => va_P D vwCl [(dq, .inr (11, [va_rf x0, .int x1, .int x2]))] H))) (zQv (fun H => True ∧ va_P D vwCl [(dq, .inr (11, [va_rf x0, .int x1, .int x2]))] H) A) (0) (0) A := by
  refine Met.ofW (cc := cJ0_init) (maxL := 1) (ret := none) (by decide) rfl ?_
  intro p e s m args below meth c s₁ B hml hv
  obtain ⟨rfl, hsz, hC, hP⟩ := hv
  have hx := B.exec
  have hb := B.bytes
  have hr := B.returns
  have hts := atoms_spec (ws := ws_ yJ0_init cJ0_init 1 none) B.pre
  have hts : ∀ w ∈ lw_all, w.before _ s = true := fun w h => hts w (List.mem_cons_of_mem _ h)
  have hown : s.vm.findClass RJ0 = some m.cls := findClass_of_methodNamed B.named
  have hlocks := B.notSynchronized
  have hin : meth.name = "<init>" := (name_of_methodNamed B.named B.method).1
  subst hsz
  have hK := hC.K
  have hS : va_S A s.heap s.heap [] := va_S.rf
  have hP : va_P D vwCl [(dq, .inr (11, [va_rf x0, .int x1, .int x2]))] s.heap := hP
  have hl := lv_entry ([.ref dq]) (n := 1) (Nat.le_of_ble_eq_true rfl)
  rw [lg_entry_eq]
  generalize (lg_sl ([.ref dq]) ++ List.replicate (1 - (lg_sl ([.ref dq])).length) Slot.unset).toArray = ls at hl ⊢
  have hl : lv_has ls 1 [(0, .ref dq)] := hl
  refine lv_aload_n hx hb dJ0_init_0 rfl (lv_at hl 0 rfl) ?_
  refine W.objInit hx hb hown (hts _ q119) (hts _ q92) (hts _ q93) rfl (by rw [hml]; exact hl.1) rfl dJ0_init_1 (Nat.le_of_ble_eq_true rfl) (Nat.le_of_ble_eq_true rfl) ?_
  refine W.eq (g2 := F0 m 4 ls []) rfl ?_
  exact z_vret hx hb hr hS (⟨trivial, hP⟩) (by omega) (by omega) dJ0_init_4

set_option maxHeartbeats 4000000 in
set_option maxRecDepth 100000 in
theorem mJ4_init (l : Launch) (D : va_G) (dA : Nat → ClassId) (ad : Nat → Nat) (A : Nat → Prop) (sz : Nat) (dq : Nat) (x0 : Option Nat) (x1 : Int32) (x2 : Int32) (hA : ∀ q, sz ≤ q → A q) (hD : va_D A [(dq, .inr (11, [va_rf x0, .int x1, .int x2]))]) : Met l yJ4_init (ws_ yJ4_init cJ4_init 1 none) ({ frames := 2, cells := 1, slots := 17, locals := 40 }) (va_Pc [.ref dq] (zP D dA ad A sz (fun H => va_P D vwCl [(dq, .inr (11, [va_rf x0, .int x1, .int x2]))] H))) (zQv (fun H => ∃ da : Nat, True ∧ va_P D vwCl [(dq, .inr (11, [.ref da, .int x1, .int x2])), (da, .inl (dA 3, 17, .inr (.inr (.inr (.inr (fun _ => none))))))] H ∧ va_D A [(dq, .inr (11, [.ref da, .int x1, .int x2])), (da, .inl (dA 3, 17, .inr (.inr (.inr (.inr (fun _ => none))))))]) A) (1) (17) A := by
  refine Met.ofW (cc := cJ4_init) (maxL := 1) (ret := none) (by decide) rfl ?_
  intro p e s m args below meth c s₁ B hml hv
  obtain ⟨rfl, hsz, hC, hP⟩ := hv
  have hx := B.exec
  have hb := B.bytes
  have hr := B.returns
  have hts := atoms_spec (ws := ws_ yJ4_init cJ4_init 1 none) B.pre
  have hts : ∀ w ∈ lw_all, w.before _ s = true := fun w h => hts w (List.mem_cons_of_mem _ h)
  have hown : s.vm.findClass RJ4 = some m.cls := findClass_of_methodNamed B.named
  have hlocks := B.notSynchronized
  have hin : meth.name = "<init>" := (name_of_methodNamed B.named B.method).1
  subst hsz
  have hK := hC.K
  have hS : va_S A s.heap s.heap [] := va_S.rf
  have hP : va_P D vwCl [(dq, .inr (11, [va_rf x0, .int x1, .int x2]))] s.heap := hP
  have hl := lv_entry ([.ref dq]) (n := 1) (Nat.le_of_ble_eq_true rfl)
  rw [lg_entry_eq]
  generalize (lg_sl ([.ref dq]) ++ List.replicate (1 - (lg_sl ([.ref dq])).length) Slot.unset).toArray = ls at hl ⊢
  have hl : lv_has ls 1 [(0, .ref dq)] := hl
  refine lv_aload_n hx hb dJ4_init_0 rfl (lv_at hl 0 rfl) ?_
  refine z_cIv (As := []) (rest := []) ⟨hx, hb, hml, hown, hts⟩ (mJ0_initQ l D dA ad A s.heap.size dq x0 x1 x2 (hA_up hA hS) (hD.sub [0] (by decide) rfl)) (cwI 0 hts (lw_meth q118) rfl rfl rfl (hts _ q57) (hts _ q238) (hts _ q117) rfl (by decide +kernel) ⟨Nat.le_of_ble_eq_true rfl, Nat.le_of_ble_eq_true rfl⟩) hC hS (fun _ h => h) (hP.sub (ws' := [(dq, .inr (11, [va_rf x0, .int x1, .int x2]))]) [0] rfl) rfl rfl hl.1 (Nat.le_of_ble_eq_true rfl) dJ4_init_1 ⟨Nat.le_of_ble_eq_true rfl, Nat.le_of_ble_eq_true rfl⟩ (fun H locs hQ hF hS => ?_)
  obtain ⟨hQ, hP⟩ := hQ
  have hD := va_D.same (ws' := [(dq, .inr (11, [va_rf x0, .int x1, .int x2]))]) (hD.sub (ws' := [(dq, .inr (11, [va_rf x0, .int x1, .int x2]))]) [0] (by decide) rfl) rfl
  have hP : va_P D vwCl [(dq, .inr (11, [va_rf x0, .int x1, .int x2]))] H := hP
  have hD : va_D A [(dq, .inr (11, [va_rf x0, .int x1, .int x2]))] := hD
  refine lv_aload_n hx hb dJ4_init_4 rfl (lv_at hl 0 rfl) ?_
  refine lv_bipush (v := nI (17)) hx hb dJ4_init_5 (by decide) ?_
  refine z_newo hx hb hown (hts _ q239) hC.aoO hK hP hD hS hA (N := 17) (by first | omega | decide) (by first | exact Nat.le_of_ble_eq_true rfl | (show _ ≤ _; simp only [headSpec]; omega)) (by first | exact Nat.le_of_ble_eq_true rfl | (show _ ≤ _; simp only [headSpec]; omega)) dJ4_init_7 (fun qn H hP hD hS => ?_)
  have hP : va_P D vwCl [(dq, .inr (11, [va_rf x0, .int x1, .int x2])), (qn, .inl (dA 3, 17, .inr (.inr (.inr (.inr (fun _ => none))))))] H := hP
  have hD : va_D A [(dq, .inr (11, [va_rf x0, .int x1, .int x2])), (qn, .inl (dA 3, 17, .inr (.inr (.inr (.inr (fun _ => none))))))] := hD
  refine va_put (D := D) (ci := 11) (v := .ref qn) (ty := .array (.object "java/lang/Object")) (C := RJ4) (T := TJ4) (N := 3) hx hb hts in_J4 tyJ4 tyJ4_ok nmJ4 hown hK hP hD hS 0 rfl rfl 0 (by decide) (hts _ q241) (fun _ h9 => h9) rfl (by decide +kernel) rfl rfl (Nat.le_of_ble_eq_true rfl) dJ4_init_10 (fun H locs hP hD hS => ?_)
  have hP : va_P D vwCl [(dq, .inr (11, [.ref qn, .int x1, .int x2])), (qn, .inl (dA 3, 17, .inr (.inr (.inr (.inr (fun _ => none))))))] H := hP
  have hD : va_D A [(dq, .inr (11, [.ref qn, .int x1, .int x2])), (qn, .inl (dA 3, 17, .inr (.inr (.inr (.inr (fun _ => none))))))] := hD
  exact z_vret hx hb hr hS (⟨qn, trivial, hP, hD⟩) (by decide) (by decide) dJ4_init_13

set_option maxHeartbeats 4000000 in
set_option maxRecDepth 100000 in
theorem mJ14_checkIndexA (l : Launch) (D : va_G) (dA : Nat → ClassId) (ad : Nat → Nat) (sz : Nat) (i : Nat) (n : Nat) (fq : Nat) (h1 : i < n) (h2 : n < 2 ^ 31) : Met l yJ14_checkIndex (ws_ yJ14_checkIndex cJ14_checkIndex 3 (some .int)) ({ frames := 0, cells := 0, slots := 0, locals := 0 }) (va_Pc [.int (nI (i)), .int (nI (n)), .ref fq] (zP D dA ad (fun q => sz ≤ q) sz (fun H => True))) (zQi (fun rz H => rz = nI (i)) (fun q => sz ≤ q)) (0) (0) (fun q => sz ≤ q) := by
  refine Met.ofW (cc := cJ14_checkIndex) (maxL := 3) (ret := (some .int)) (by decide) rfl ?_
  intro p e s m args below meth c s₁ B hml hv
  obtain ⟨rfl, hsz, hC, hP⟩ := hv
  have hx := B.exec
  have hb := B.bytes
  have hr := B.returns
  have hts := atoms_spec (ws := ws_ yJ14_checkIndex cJ14_checkIndex 3 (some .int)) B.pre
  have hts : ∀ w ∈ lw_all, w.before _ s = true := fun w h => hts w (List.mem_cons_of_mem _ h)
  have hown : s.vm.findClass RJ14 = some m.cls := findClass_of_methodNamed B.named
  have hlocks := B.notSynchronized
  subst hsz
  have hK := hC.K
  have hA : ∀ q : Nat, s.heap.size ≤ q → s.heap.size ≤ q := fun _ h => h
  have hS : va_S (fun q => s.heap.size ≤ q) s.heap s.heap [] := va_S.rf
  have hP : va_P D vwCl [] s.heap := va_Pnil
  have hl := lv_entry ([.int (nI (i)), .int (nI (n)), .ref fq]) (n := 3) (Nat.le_of_ble_eq_true rfl)
  rw [lg_entry_eq]
  generalize (lg_sl ([.int (nI (i)), .int (nI (n)), .ref fq]) ++ List.replicate (3 - (lg_sl ([.int (nI (i)), .int (nI (n)), .ref fq])).length) Slot.unset).toArray = ls at hl ⊢
  have hl : lv_has ls 3 [(0, .int (nI (i))), (1, .int (nI (n))), (2, .ref fq)] := hl
  refine lv_iload_n hx hb dJ14_checkIndex_0 rfl (lv_at hl 0 rfl) ?_
  refine lv_if_lt (tgt := 9) hx hb dJ14_checkIndex_1 (by decide) (fun c_1 => ?_) (fun c_1 => ?_)
  · exact absurd c_1 (nI_pos (by omega))
  · refine lv_iload_n hx hb dJ14_checkIndex_4 rfl (lv_at hl 0 rfl) ?_
    refine lv_iload_n hx hb dJ14_checkIndex_5 rfl (lv_at hl 1 rfl) ?_
    refine lv_icmp_lt (tgt := 16) hx hb dJ14_checkIndex_6 (by decide) (fun c_2 => ?_) (fun c_2 => ?_)
    · have c_2 := (nI_ltI (by omega) (by omega)).1 c_2
      refine lv_iload_n hx hb dJ14_checkIndex_16 rfl (lv_at hl 0 rfl) ?_
      exact z_iret (v := nI (i)) hx hb hr hS (rfl) (by omega) (by omega) dJ14_checkIndex_17
    · have c_2 := mt (nI_ltI (by omega) (by omega)).2 c_2
      omega

set_option maxHeartbeats 4000000 in
set_option maxRecDepth 100000 in
theorem mJ7_checkIndex (l : Launch) (D : va_G) (dA : Nat → ClassId) (ad : Nat → Nat) (sz : Nat) (i : Nat) (n : Nat) (h1 : i < n) (h2 : n < 2 ^ 31) : Met l yJ7_checkIndex (ws_ yJ7_checkIndex cJ7_checkIndex 2 none) ({ frames := 1, cells := 0, slots := 0, locals := 40 }) (va_Pc [.int (nI (i)), .int (nI (n))] (zP D dA ad (fun q => sz ≤ q) sz (fun H => True))) (zQv (fun H => True) (fun q => sz ≤ q)) (0) (0) (fun q => sz ≤ q) := by
  refine Met.ofW (cc := cJ7_checkIndex) (maxL := 2) (ret := none) (by decide) rfl ?_
  intro p e s m args below meth c s₁ B hml hv
  obtain ⟨rfl, hsz, hC, hP⟩ := hv
  have hx := B.exec
  have hb := B.bytes
  have hr := B.returns
  have hts := atoms_spec (ws := ws_ yJ7_checkIndex cJ7_checkIndex 2 none) B.pre
  have hts : ∀ w ∈ lw_all, w.before _ s = true := fun w h => hts w (List.mem_cons_of_mem _ h)
  have hown : s.vm.findClass RJ7 = some m.cls := findClass_of_methodNamed B.named
  have hlocks := B.notSynchronized
  subst hsz
  have hK := hC.K
  have hA : ∀ q : Nat, s.heap.size ≤ q → s.heap.size ≤ q := fun _ h => h
  have hS : va_S (fun q => s.heap.size ≤ q) s.heap s.heap [] := va_S.rf
  have hP : va_P D vwCl [] s.heap := va_Pnil
  have hl := lv_entry ([.int (nI (i)), .int (nI (n))]) (n := 2) (Nat.le_of_ble_eq_true rfl)
  rw [lg_entry_eq]
  generalize (lg_sl ([.int (nI (i)), .int (nI (n))]) ++ List.replicate (2 - (lg_sl ([.int (nI (i)), .int (nI (n))])).length) Slot.unset).toArray = ls at hl ⊢
  have hl : lv_has ls 2 [(0, .int (nI (i))), (1, .int (nI (n)))] := hl
  refine lv_iload_n hx hb dJ7_checkIndex_0 rfl (lv_at hl 0 rfl) ?_
  refine lv_iload_n hx hb dJ7_checkIndex_1 rfl (lv_at hl 1 rfl) ?_
  rcases hC.zF with hz | ⟨tq, hz⟩
  · refine va_gets (v := .null) hx hb hz hS hown (hts _ q511) (fun _ h9 => h9) dJ7_checkIndex_2 ?_
    refine z_cSi (As := [.int (nI (i)), .int (nI (n)), .null]) (rest := []) ⟨hx, hb, hml, hown, hts⟩ (mJ14_checkIndex l D dA ad s.heap.size i n (by omega) (by omega)) (va_cwS 3 hts (lw_S q1141 q743 q74 q744) rfl rfl rfl (by decide +kernel) ⟨Nat.le_of_ble_eq_true rfl, Nat.le_of_ble_eq_true rfl⟩) hC hS (fun _ h => hA _ (Nat.le_trans hS.1 h)) trivial rfl rfl hl.1 (Nat.le_of_ble_eq_true rfl) dJ7_checkIndex_5 ⟨Nat.le_of_ble_eq_true rfl, Nat.le_of_ble_eq_true rfl⟩ (fun r_1 H locs hQ hF hS => ?_)
    obtain rfl : nI (i) = r_1 := hQ.symm
    refine lv_pop hx hb dJ7_checkIndex_8 rfl ?_
    exact z_vret hx hb hr hS (trivial) (by omega) (by omega) dJ7_checkIndex_9
  · refine va_gets (v := .ref tq) hx hb hz hS hown (hts _ q511) (fun _ h9 => h9) dJ7_checkIndex_2 ?_
    refine z_cSi (As := [.int (nI (i)), .int (nI (n)), .ref tq]) (rest := []) ⟨hx, hb, hml, hown, hts⟩ (mJ14_checkIndexA l D dA ad s.heap.size i n tq (by omega) (by omega)) (va_cwS 3 hts (lw_S q1141 q743 q74 q744) rfl rfl rfl (by decide +kernel) ⟨Nat.le_of_ble_eq_true rfl, Nat.le_of_ble_eq_true rfl⟩) hC hS (fun _ h => hA _ (Nat.le_trans hS.1 h)) trivial rfl rfl hl.1 (Nat.le_of_ble_eq_true rfl) dJ7_checkIndex_5 ⟨Nat.le_of_ble_eq_true rfl, Nat.le_of_ble_eq_true rfl⟩ (fun r_2 H locs hQ hF hS => ?_)
    obtain rfl : nI (i) = r_2 := hQ.symm
    refine lv_pop hx hb dJ7_checkIndex_8 rfl ?_
    exact z_vret hx hb hr hS (trivial) (by omega) (by omega) dJ7_checkIndex_9

set_option maxHeartbeats 4000000 in
set_option maxRecDepth 100000 in
theorem mJ7_isLatin1 (l : Launch) (D : va_G) (dA : Nat → ClassId) (ad : Nat → Nat) (sz : Nat) (i : Nat) (h7 : i < 7) : Met l yJ7_isLatin1 (ws_ yJ7_isLatin1 cJ7_isLatin1 1 (some .boolean)) ({ frames := 0, cells := 0, slots := 0, locals := 0 }) (va_Pc [.ref (ad (10 + i))] (zP D dA ad (fun q => sz ≤ q) sz (fun H => True))) (zQi (fun rz H => rz = nI (1)) (fun q => sz ≤ q)) (0) (0) (fun q => sz ≤ q) := by
  refine Met.ofW (cc := cJ7_isLatin1) (maxL := 1) (ret := (some .boolean)) (by decide) rfl ?_
  intro p e s m args below meth c s₁ B hml hv
  obtain ⟨rfl, hsz, hC, hP⟩ := hv
  have hx := B.exec
  have hb := B.bytes
  have hr := B.returns
  have hts := atoms_spec (ws := ws_ yJ7_isLatin1 cJ7_isLatin1 1 (some .boolean)) B.pre
  have hts : ∀ w ∈ lw_all, w.before _ s = true := fun w h => hts w (List.mem_cons_of_mem _ h)
  have hown : s.vm.findClass RJ7 = some m.cls := findClass_of_methodNamed B.named
  have hlocks := B.notSynchronized
  subst hsz
  have hK := hC.K
  have hA : ∀ q : Nat, s.heap.size ≤ q → s.heap.size ≤ q := fun _ h => h
  have hS : va_S (fun q => s.heap.size ≤ q) s.heap s.heap [] := va_S.rf
  have hP : va_P D vwCl [] s.heap := va_Pnil
  have hl := lv_entry ([.ref (ad (10 + i))]) (n := 1) (Nat.le_of_ble_eq_true rfl)
  rw [lg_entry_eq]
  generalize (lg_sl ([.ref (ad (10 + i))]) ++ List.replicate (1 - (lg_sl ([.ref (ad (10 + i))])).length) Slot.unset).toArray = ls at hl ⊢
  have hl : lv_has ls 1 [(0, .ref (ad (10 + i)))] := hl
  refine va_gets (v := .int (nI (1))) hx hb hC.zC hS hown (hts _ q473) (fun _ h9 => h9) dJ7_isLatin1_0 ?_
  refine lv_if_eq (tgt := 17) hx hb dJ7_isLatin1_3 (by decide) (fun c_1 => ?_) (fun c_1 => ?_)
  · exact absurd c_1 (by decide)
  · refine lv_aload_n hx hb dJ7_isLatin1_6 rfl (lv_at hl 0 rfl) ?_
    refine vk_getf (v := .int (nI (0))) hx hb (hC.st.1 (i) (by omega)).2.1 hS hown (hts _ q1643) (fun _ h9 => h9) dJ7_isLatin1_7 ?_
    refine lv_if_ne (tgt := 17) hx hb dJ7_isLatin1_10 (by decide) (fun c_2 => ?_) (fun c_2 => ?_)
    · exact absurd c_2 (by decide)
    · refine lv_iconst (v := nI (1)) hx hb dJ7_isLatin1_13 (by decide) ?_
      refine lv_goto (tgt := 18) hx hb dJ7_isLatin1_14 (by decide) ?_
      exact z_zret (v := nI (1)) hx hb hr (by first | rfl | decide) hS (rfl) (by omega) (by omega) dJ7_isLatin1_18

set_option maxHeartbeats 4000000 in
set_option maxRecDepth 100000 in
theorem mJ7_coder (l : Launch) (D : va_G) (dA : Nat → ClassId) (ad : Nat → Nat) (sz : Nat) (i : Nat) (h7 : i < 7) : Met l yJ7_coder (ws_ yJ7_coder cJ7_coder 1 (some .byte)) ({ frames := 0, cells := 0, slots := 0, locals := 0 }) (va_Pc [.ref (ad (10 + i))] (zP D dA ad (fun q => sz ≤ q) sz (fun H => True))) (zQi (fun rz H => rz = nI (0)) (fun q => sz ≤ q)) (0) (0) (fun q => sz ≤ q) := by
  refine Met.ofW (cc := cJ7_coder) (maxL := 1) (ret := (some .byte)) (by decide) rfl ?_
  intro p e s m args below meth c s₁ B hml hv
  obtain ⟨rfl, hsz, hC, hP⟩ := hv
  have hx := B.exec
  have hb := B.bytes
  have hr := B.returns
  have hts := atoms_spec (ws := ws_ yJ7_coder cJ7_coder 1 (some .byte)) B.pre
  have hts : ∀ w ∈ lw_all, w.before _ s = true := fun w h => hts w (List.mem_cons_of_mem _ h)
  have hown : s.vm.findClass RJ7 = some m.cls := findClass_of_methodNamed B.named
  have hlocks := B.notSynchronized
  subst hsz
  have hK := hC.K
  have hA : ∀ q : Nat, s.heap.size ≤ q → s.heap.size ≤ q := fun _ h => h
  have hS : va_S (fun q => s.heap.size ≤ q) s.heap s.heap [] := va_S.rf
  have hP : va_P D vwCl [] s.heap := va_Pnil
  have hl := lv_entry ([.ref (ad (10 + i))]) (n := 1) (Nat.le_of_ble_eq_true rfl)
  rw [lg_entry_eq]
  generalize (lg_sl ([.ref (ad (10 + i))]) ++ List.replicate (1 - (lg_sl ([.ref (ad (10 + i))])).length) Slot.unset).toArray = ls at hl ⊢
  have hl : lv_has ls 1 [(0, .ref (ad (10 + i)))] := hl
  refine va_gets (v := .int (nI (1))) hx hb hC.zC hS hown (hts _ q473) (fun _ h9 => h9) dJ7_coder_0 ?_
  refine lv_if_eq (tgt := 13) hx hb dJ7_coder_3 (by decide) (fun c_1 => ?_) (fun c_1 => ?_)
  · exact absurd c_1 (by decide)
  · refine lv_aload_n hx hb dJ7_coder_6 rfl (lv_at hl 0 rfl) ?_
    refine vk_getf (v := .int (nI (0))) hx hb (hC.st.1 (i) (by omega)).2.1 hS hown (hts _ q1643) (fun _ h9 => h9) dJ7_coder_7 ?_
    refine lv_goto (tgt := 14) hx hb dJ7_coder_10 (by decide) ?_
    exact z_zret (v := nI (0)) hx hb hr (by decide) hS (rfl) (by omega) (by omega) dJ7_coder_14

set_option maxHeartbeats 4000000 in
set_option maxRecDepth 100000 in
theorem mJ7_length (l : Launch) (D : va_G) (dA : Nat → ClassId) (ad : Nat → Nat) (sz : Nat) (i : Nat) (h7 : i < 7) : Met l yJ7_length (ws_ yJ7_length cJ7_length 1 (some .int)) ({ frames := 1, cells := 0, slots := 0, locals := 40 }) (va_Pc [.ref (ad (10 + i))] (zP D dA ad (fun q => sz ≤ q) sz (fun H => True))) (zQi (fun rz H => rz = nI (sLen.getD i 0)) (fun q => sz ≤ q)) (0) (0) (fun q => sz ≤ q) := by
  refine Met.ofW (cc := cJ7_length) (maxL := 1) (ret := (some .int)) (by decide) rfl ?_
  intro p e s m args below meth c s₁ B hml hv
  obtain ⟨rfl, hsz, hC, hP⟩ := hv
  have hx := B.exec
  have hb := B.bytes
  have hr := B.returns
  have hts := atoms_spec (ws := ws_ yJ7_length cJ7_length 1 (some .int)) B.pre
  have hts : ∀ w ∈ lw_all, w.before _ s = true := fun w h => hts w (List.mem_cons_of_mem _ h)
  have hown : s.vm.findClass RJ7 = some m.cls := findClass_of_methodNamed B.named
  have hlocks := B.notSynchronized
  subst hsz
  have hK := hC.K
  have hA : ∀ q : Nat, s.heap.size ≤ q → s.heap.size ≤ q := fun _ h => h
  have hS : va_S (fun q => s.heap.size ≤ q) s.heap s.heap [] := va_S.rf
  have hP : va_P D vwCl [] s.heap := va_Pnil
  have hsl := sLen_ok i (by omega)
  have hl := lv_entry ([.ref (ad (10 + i))]) (n := 1) (Nat.le_of_ble_eq_true rfl)
  rw [lg_entry_eq]
  generalize (lg_sl ([.ref (ad (10 + i))]) ++ List.replicate (1 - (lg_sl ([.ref (ad (10 + i))])).length) Slot.unset).toArray = ls at hl ⊢
  have hl : lv_has ls 1 [(0, .ref (ad (10 + i)))] := hl
  refine lv_aload_n hx hb dJ7_length_0 rfl (lv_at hl 0 rfl) ?_
  refine vk_getf (v := .ref (ad (20 + i))) hx hb (hC.st.1 (i) (by omega)).2.2.1 hS hown (hts _ q1644) (fun _ h9 => h9) dJ7_length_1 ?_
  refine va_tlen (v := nI (sLen.getD i 0)) hx hb (hC.st.1 (i) (by omega)).2.2.2 hS rfl dJ7_length_4 ?_
  refine lv_aload_n hx hb dJ7_length_5 rfl (lv_at hl 0 rfl) ?_
  refine z_cVi (As := []) (rest := [.int (nI (sLen.getD i 0))]) ⟨hx, hb, hml, hown, hts⟩ (mJ7_coder l D dA ad s.heap.size i (by omega)) (cwV 0 hts (lw_V q478 q479 q480 q65 q481) rfl rfl rfl (by decide +kernel) ⟨Nat.le_of_ble_eq_true rfl, Nat.le_of_ble_eq_true rfl⟩) hC hS (fun _ h => hA _ (Nat.le_trans hS.1 h)) trivial (vk_recv (i := i) hC.st (by omega) hS) rfl rfl hl.1 (Nat.le_of_ble_eq_true rfl) dJ7_length_6 ⟨Nat.le_of_ble_eq_true rfl, Nat.le_of_ble_eq_true rfl⟩ (fun r_1 H locs hQ hF hS => ?_)
  obtain rfl : nI (0) = r_1 := hQ.symm
  refine lv_ishr hx hb dJ7_length_9 ?_
  refine lv_tope (y := nI (sLen.getD i 0)) (shr0 (by omega)) ?_
  exact z_iret (v := nI (sLen.getD i 0)) hx hb hr hS (rfl) (by omega) (by omega) dJ7_length_10

set_option maxHeartbeats 4000000 in
set_option maxRecDepth 100000 in
theorem mJ13_charAt (l : Launch) (D : va_G) (dA : Nat → ClassId) (ad : Nat → Nat) (sz : Nat) (i : Nat) (k : Nat) (h7 : i < 7) (h1 : k < sLen.getD i 0) : Met l yJ13_charAt (ws_ yJ13_charAt cJ13_charAt 2 (some .char)) ({ frames := 2, cells := 0, slots := 0, locals := 70 }) (va_Pc [.ref (ad (20 + i)), .int (nI (k))] (zP D dA ad (fun q => sz ≤ q) sz (fun H => True))) (zQi (fun rz H => rz = ((sByt.getD i []).getD k 0)) (fun q => sz ≤ q)) (0) (0) (fun q => sz ≤ q) := by
  refine Met.ofW (cc := cJ13_charAt) (maxL := 2) (ret := (some .char)) (by decide) rfl ?_
  intro p e s m args below meth c s₁ B hml hv
  obtain ⟨rfl, hsz, hC, hP⟩ := hv
  have hx := B.exec
  have hb := B.bytes
  have hr := B.returns
  have hts := atoms_spec (ws := ws_ yJ13_charAt cJ13_charAt 2 (some .char)) B.pre
  have hts : ∀ w ∈ lw_all, w.before _ s = true := fun w h => hts w (List.mem_cons_of_mem _ h)
  have hown : s.vm.findClass RJ13 = some m.cls := findClass_of_methodNamed B.named
  have hlocks := B.notSynchronized
  subst hsz
  have hK := hC.K
  have hA : ∀ q : Nat, s.heap.size ≤ q → s.heap.size ≤ q := fun _ h => h
  have hS : va_S (fun q => s.heap.size ≤ q) s.heap s.heap [] := va_S.rf
  have hP : va_P D vwCl [] s.heap := va_Pnil
  have hsl := sLen_ok i (by omega)
  have hby := sByt_ok i (by omega) k (by omega)
  have hl := lv_entry ([.ref (ad (20 + i)), .int (nI (k))]) (n := 2) (Nat.le_of_ble_eq_true rfl)
  rw [lg_entry_eq]
  generalize (lg_sl ([.ref (ad (20 + i)), .int (nI (k))]) ++ List.replicate (2 - (lg_sl ([.ref (ad (20 + i)), .int (nI (k))])).length) Slot.unset).toArray = ls at hl ⊢
  have hl : lv_has ls 2 [(0, .ref (ad (20 + i))), (1, .int (nI (k)))] := hl
  refine lv_iload_n hx hb dJ13_charAt_0 rfl (lv_at hl 1 rfl) ?_
  refine lv_aload_n hx hb dJ13_charAt_1 rfl (lv_at hl 0 rfl) ?_
  refine va_tlen (v := nI (sLen.getD i 0)) hx hb (hC.st.1 (i) (by omega)).2.2.2 hS rfl dJ13_charAt_2 ?_
  refine z_cSv (As := [.int (nI (k)), .int (nI (sLen.getD i 0))]) (rest := []) ⟨hx, hb, hml, hown, hts⟩ (mJ7_checkIndex l D dA ad s.heap.size k (sLen.getD i 0) (by omega) (by omega)) (va_cwS 2 hts (lw_S q1236 q1139 q65 q1140) rfl rfl rfl (by decide +kernel) ⟨Nat.le_of_ble_eq_true rfl, Nat.le_of_ble_eq_true rfl⟩) hC hS (fun _ h => hA _ (Nat.le_trans hS.1 h)) trivial rfl rfl hl.1 (Nat.le_of_ble_eq_true rfl) dJ13_charAt_3 ⟨Nat.le_of_ble_eq_true rfl, Nat.le_of_ble_eq_true rfl⟩ (fun H locs hQ hF hS => ?_)
  refine lv_aload_n hx hb dJ13_charAt_6 rfl (lv_at hl 0 rfl) ?_
  refine lv_iload_n hx hb dJ13_charAt_7 rfl (lv_at hl 1 rfl) ?_
  refine va_tb (v := .int ((sByt.getD i []).getD k 0)) hx hb (hC.st.1 (i) (by omega)).2.2.2 hS (vp_in_nI (by omega) (by omega)) (by show Value.int _ = _; rw [nI_clamp (by omega)]) dJ13_charAt_8 ?_
  refine lv_sipush (v := nI (255)) hx hb dJ13_charAt_9 (by decide) ?_
  refine lv_iand hx hb dJ13_charAt_12 ?_
  refine lv_i2c (v := ((sByt.getD i []).getD k 0)) hx hb dJ13_charAt_13 (hby.2.1) ?_
  exact z_zret (v := ((sByt.getD i []).getD k 0)) hx hb hr (hby.2.2) hS (rfl) (by omega) (by omega) dJ13_charAt_14

set_option maxHeartbeats 4000000 in
set_option maxRecDepth 100000 in
theorem mJ7_charAt (l : Launch) (D : va_G) (dA : Nat → ClassId) (ad : Nat → Nat) (sz : Nat) (i : Nat) (k : Nat) (h7 : i < 7) (h1 : k < sLen.getD i 0) : Met l yJ7_charAt (ws_ yJ7_charAt cJ7_charAt 2 (some .char)) ({ frames := 3, cells := 0, slots := 0, locals := 110 }) (va_Pc [.ref (ad (10 + i)), .int (nI (k))] (zP D dA ad (fun q => sz ≤ q) sz (fun H => True))) (zQi (fun rz H => rz = ((sByt.getD i []).getD k 0)) (fun q => sz ≤ q)) (0) (0) (fun q => sz ≤ q) := by
  refine Met.ofW (cc := cJ7_charAt) (maxL := 2) (ret := (some .char)) (by decide) rfl ?_
  intro p e s m args below meth c s₁ B hml hv
  obtain ⟨rfl, hsz, hC, hP⟩ := hv
  have hx := B.exec
  have hb := B.bytes
  have hr := B.returns
  have hts := atoms_spec (ws := ws_ yJ7_charAt cJ7_charAt 2 (some .char)) B.pre
  have hts : ∀ w ∈ lw_all, w.before _ s = true := fun w h => hts w (List.mem_cons_of_mem _ h)
  have hown : s.vm.findClass RJ7 = some m.cls := findClass_of_methodNamed B.named
  have hlocks := B.notSynchronized
  subst hsz
  have hK := hC.K
  have hA : ∀ q : Nat, s.heap.size ≤ q → s.heap.size ≤ q := fun _ h => h
  have hS : va_S (fun q => s.heap.size ≤ q) s.heap s.heap [] := va_S.rf
  have hP : va_P D vwCl [] s.heap := va_Pnil
  have hl := lv_entry ([.ref (ad (10 + i)), .int (nI (k))]) (n := 2) (Nat.le_of_ble_eq_true rfl)
  rw [lg_entry_eq]
  generalize (lg_sl ([.ref (ad (10 + i)), .int (nI (k))]) ++ List.replicate (2 - (lg_sl ([.ref (ad (10 + i)), .int (nI (k))])).length) Slot.unset).toArray = ls at hl ⊢
  have hl : lv_has ls 2 [(0, .ref (ad (10 + i))), (1, .int (nI (k)))] := hl
  refine lv_aload_n hx hb dJ7_charAt_0 rfl (lv_at hl 0 rfl) ?_
  refine z_cVi (As := []) (rest := []) ⟨hx, hb, hml, hown, hts⟩ (mJ7_isLatin1 l D dA ad s.heap.size i (by omega)) (cwV 0 hts (lw_V q469 q470 q471 q65 q472) rfl rfl rfl (by decide +kernel) ⟨Nat.le_of_ble_eq_true rfl, Nat.le_of_ble_eq_true rfl⟩) hC hS (fun _ h => hA _ (Nat.le_trans hS.1 h)) trivial (vk_recv (i := i) hC.st (by omega) hS) rfl rfl hl.1 (Nat.le_of_ble_eq_true rfl) dJ7_charAt_1 ⟨Nat.le_of_ble_eq_true rfl, Nat.le_of_ble_eq_true rfl⟩ (fun r_1 H locs hQ hF hS => ?_)
  obtain rfl : nI (1) = r_1 := hQ.symm
  refine lv_if_eq (tgt := 16) hx hb dJ7_charAt_4 (by decide) (fun c_2 => ?_) (fun c_2 => ?_)
  · exact absurd c_2 (by decide)
  · refine lv_aload_n hx hb dJ7_charAt_7 rfl (lv_at hl 0 rfl) ?_
    refine vk_getf (v := .ref (ad (20 + i))) hx hb (hC.st.1 (i) (by omega)).2.2.1 hS hown (hts _ q1644) (fun _ h9 => h9) dJ7_charAt_8 ?_
    refine lv_iload_n hx hb dJ7_charAt_11 rfl (lv_at hl 1 rfl) ?_
    refine z_cSi (As := [.ref (ad (20 + i)), .int (nI (k))]) (rest := []) ⟨hx, hb, hml, hown, hts⟩ (mJ13_charAt l D dA ad H.size i k (by omega) (by omega)) (va_cwS 2 hts (lw_S q1233 q1234 q73 q1235) rfl rfl rfl (by decide +kernel) ⟨Nat.le_of_ble_eq_true rfl, Nat.le_of_ble_eq_true rfl⟩) hC hS (fun _ h => hA _ (Nat.le_trans hS.1 h)) trivial rfl rfl hl.1 (Nat.le_of_ble_eq_true rfl) dJ7_charAt_12 ⟨Nat.le_of_ble_eq_true rfl, Nat.le_of_ble_eq_true rfl⟩ (fun r_3 H locs hQ hF hS => ?_)
    obtain rfl : ((sByt.getD i []).getD k 0) = r_3 := hQ.symm
    exact z_zret (v := ((sByt.getD i []).getD k 0)) hx hb hr ((sByt_ok i (by omega) k (by have hsl := sLen_ok i (by omega); omega)).2.2) hS (rfl) (by omega) (by omega) dJ7_charAt_15

set_option maxHeartbeats 4000000 in
set_option maxRecDepth 100000 in
theorem mJ13_canEncode (l : Launch) (D : va_G) (dA : Nat → ClassId) (ad : Nat → Nat) (sz : Nat) (k : Nat) (hk : k < 128) : Met l yJ13_canEncode (ws_ yJ13_canEncode cJ13_canEncode 1 (some .boolean)) ({ frames := 0, cells := 0, slots := 0, locals := 0 }) (va_Pc [.int (nI (k))] (zP D dA ad (fun q => sz ≤ q) sz (fun H => True))) (zQi (fun rz H => rz = nI (1)) (fun q => sz ≤ q)) (0) (0) (fun q => sz ≤ q) := by
  refine Met.ofW (cc := cJ13_canEncode) (maxL := 1) (ret := (some .boolean)) (by decide) rfl ?_
  intro p e s m args below meth c s₁ B hml hv
  obtain ⟨rfl, hsz, hC, hP⟩ := hv
  have hx := B.exec
  have hb := B.bytes
  have hr := B.returns
  have hts := atoms_spec (ws := ws_ yJ13_canEncode cJ13_canEncode 1 (some .boolean)) B.pre
  have hts : ∀ w ∈ lw_all, w.before _ s = true := fun w h => hts w (List.mem_cons_of_mem _ h)
  have hown : s.vm.findClass RJ13 = some m.cls := findClass_of_methodNamed B.named
  have hlocks := B.notSynchronized
  subst hsz
  have hK := hC.K
  have hA : ∀ q : Nat, s.heap.size ≤ q → s.heap.size ≤ q := fun _ h => h
  have hS : va_S (fun q => s.heap.size ≤ q) s.heap s.heap [] := va_S.rf
  have hP : va_P D vwCl [] s.heap := va_Pnil
  have hl := lv_entry ([.int (nI (k))]) (n := 1) (Nat.le_of_ble_eq_true rfl)
  rw [lg_entry_eq]
  generalize (lg_sl ([.int (nI (k))]) ++ List.replicate (1 - (lg_sl ([.int (nI (k))])).length) Slot.unset).toArray = ls at hl ⊢
  have hl : lv_has ls 1 [(0, .int (nI (k)))] := hl
  refine lv_iload_n hx hb dJ13_canEncode_0 rfl (lv_at hl 0 rfl) ?_
  refine lv_if_lt (tgt := 15) hx hb dJ13_canEncode_1 (by decide) (fun c_1 => ?_) (fun c_1 => ?_)
  · exact absurd c_1 (nI_pos (by omega))
  · refine lv_iload_n hx hb dJ13_canEncode_4 rfl (lv_at hl 0 rfl) ?_
    refine lv_sipush (v := nI (255)) hx hb dJ13_canEncode_5 (by decide) ?_
    refine lv_icmp_gt (tgt := 15) hx hb dJ13_canEncode_8 (by decide) (fun c_2 => ?_) (fun c_2 => ?_)
    · have c_2 := (nI_ltI (by omega) (by omega)).1 c_2
      omega
    · have c_2 := mt (nI_ltI (by omega) (by omega)).2 c_2
      refine lv_iconst (v := nI (1)) hx hb dJ13_canEncode_11 (by decide) ?_
      refine lv_goto (tgt := 16) hx hb dJ13_canEncode_12 (by decide) ?_
      exact z_zret (v := nI (1)) hx hb hr (by first | rfl | decide) hS (rfl) (by omega) (by omega) dJ13_canEncode_16

set_option maxHeartbeats 4000000 in
set_option maxRecDepth 100000 in
theorem mJ13_indexOfChar (l : Launch) (D : va_G) (dA : Nat → ClassId) (ad : Nat → Nat) (sz : Nat) (i : Nat) (k : Nat) (h7 : i < 7) (hk : k < 128) : Met l yJ13_indexOfChar (ws_ yJ13_indexOfChar cJ13_indexOfChar 6 (some .int)) ({ frames := 0, cells := 0, slots := 0, locals := 0 }) (va_Pc [.ref (ad (20 + i)), .int (nI (k)), .int (nI (0)), .int (nI (sLen.getD i 0))] (zP D dA ad (fun q => sz ≤ q) sz (fun H => True))) (zQi (fun rz H => (rz < 0 ↔ nI k ∉ sByt.getD i [])) (fun q => sz ≤ q)) (0) (0) (fun q => sz ≤ q) := by
  refine Met.ofW (cc := cJ13_indexOfChar) (maxL := 6) (ret := (some .int)) (by decide) rfl ?_
  intro p e s m args below meth c s₁ B hml hv
  obtain ⟨rfl, hsz, hC, hP⟩ := hv
  have hx := B.exec
  have hb := B.bytes
  have hr := B.returns
  have hts := atoms_spec (ws := ws_ yJ13_indexOfChar cJ13_indexOfChar 6 (some .int)) B.pre
  have hts : ∀ w ∈ lw_all, w.before _ s = true := fun w h => hts w (List.mem_cons_of_mem _ h)
  have hown : s.vm.findClass RJ13 = some m.cls := findClass_of_methodNamed B.named
  have hlocks := B.notSynchronized
  subst hsz
  have hK := hC.K
  have hA : ∀ q : Nat, s.heap.size ≤ q → s.heap.size ≤ q := fun _ h => h
  have hS : va_S (fun q => s.heap.size ≤ q) s.heap s.heap [] := va_S.rf
  have hP : va_P D vwCl [] s.heap := va_Pnil
  have hsl := sLen_ok i (by omega)
  have hl := lv_entry ([.ref (ad (20 + i)), .int (nI (k)), .int (nI (0)), .int (nI (sLen.getD i 0))]) (n := 6) (Nat.le_of_ble_eq_true rfl)
  rw [lg_entry_eq]
  generalize (lg_sl ([.ref (ad (20 + i)), .int (nI (k)), .int (nI (0)), .int (nI (sLen.getD i 0))]) ++ List.replicate (6 - (lg_sl ([.ref (ad (20 + i)), .int (nI (k)), .int (nI (0)), .int (nI (sLen.getD i 0))])).length) Slot.unset).toArray = ls at hl ⊢
  have hl : lv_has ls 6 [(0, .ref (ad (20 + i))), (1, .int (nI (k))), (2, .int (nI (0))), (3, .int (nI (sLen.getD i 0)))] := hl
  refine lv_iload_n hx hb dJ13_indexOfChar_0 rfl (lv_at hl 1 rfl) ?_
  refine lv_i2b (v := nI (k)) hx hb dJ13_indexOfChar_1 (i2b_n hk) ?_
  refine lv_istore (lv' := [(4, .int (nI (k))), (0, .ref (ad (20 + i))), (1, .int (nI (k))), (2, .int (nI (0))), (3, .int (nI (sLen.getD i 0)))]) hx hb dJ13_indexOfChar_2 hl (by decide) rfl (fun ls hl => ?_)
  refine lv_iload_n hx hb dJ13_indexOfChar_4 rfl (lv_at hl 3 rfl) ?_
  refine lv_istore (lv' := [(5, .int (nI (0))), (4, .int (nI (k))), (0, .ref (ad (20 + i))), (1, .int (nI (k))), (2, .int (nI (0))), (3, .int (nI (sLen.getD i 0)))]) hx hb dJ13_indexOfChar_5 hl (by decide) rfl (fun ls hl => ?_)
  refine z_loop (σ := Nat) (fun x => sLen.getD i 0 - x) (fun x H locs ls => va_S (fun q => s.heap.size ≤ q) s.heap H locs ∧ lv_has ls 6 [(0, .ref (ad (20 + i))), (4, .int (nI (k))), (5, .int (nI (x))), (3, .int (nI (sLen.getD i 0)))] ∧ x ≤ sLen.getD i 0 ∧ ∀ j, j < x → (sByt.getD i []).getD j 0 ≠ nI k) (0) ⟨hS, (lv_sub (l' := [(0, .ref (ad (20 + i))), (4, .int (nI (k))), (5, .int (nI (0))), (3, .int (nI (sLen.getD i 0)))]) hl [2, 1, 0, 5] rfl), by omega, fun j hj => absurd hj (by omega)⟩ ?_
  intro x H locs ls ⟨hS, hl, hx1, hx2⟩ ih_7
  refine lv_iload hx hb dJ13_indexOfChar_7 (lv_at hl 2 rfl) ?_
  refine lv_iload_n hx hb dJ13_indexOfChar_9 rfl (lv_at hl 3 rfl) ?_
  refine lv_icmp_ge (tgt := 31) hx hb dJ13_indexOfChar_10 (by decide) (fun c_1 => ?_) (fun c_1 => ?_)
  · have c_1 := (nI_leI (by omega) (by omega)).1 c_1
    refine lv_iconst (v := (-1)) hx hb dJ13_indexOfChar_31 (by decide) ?_
    exact z_iret (v := (-1)) hx hb hr hS (sIdx_out hsl.1 hx2 (by omega)) (by omega) (by omega) dJ13_indexOfChar_32
  · have c_1 := mt (nI_leI (by omega) (by omega)).2 c_1
    refine lv_aload_n hx hb dJ13_indexOfChar_13 rfl (lv_at hl 0 rfl) ?_
    refine lv_iload hx hb dJ13_indexOfChar_14 (lv_at hl 2 rfl) ?_
    refine va_tb (v := .int ((sByt.getD i []).getD x 0)) hx hb (hC.st.1 (i) (by omega)).2.2.2 hS (vp_in_nI (by omega) (by omega)) (by show Value.int _ = _; rw [nI_clamp (by omega)]) dJ13_indexOfChar_16 ?_
    refine lv_iload hx hb dJ13_indexOfChar_17 (lv_at hl 1 rfl) ?_
    refine lv_icmp_ne (tgt := 25) hx hb dJ13_indexOfChar_19 (by decide) (fun c_2 => ?_) (fun c_2 => ?_)
    · refine lv_iinc (v := nI (x + 1)) (lv' := [(5, .int (nI (x + 1))), (0, .ref (ad (20 + i))), (4, .int (nI (k))), (3, .int (nI (sLen.getD i 0)))]) hx hb dJ13_indexOfChar_25 hl (k := 2) rfl (nI_add _ _) (by decide) rfl (fun ls hl => ?_)
      refine lv_goto (tgt := 7) hx hb dJ13_indexOfChar_28 (by decide) ?_
      exact ih_7 (x + 1) H locs ls ⟨hS, (lv_sub (l' := [(0, .ref (ad (20 + i))), (4, .int (nI (k))), (5, .int (nI ((x + 1)))), (3, .int (nI (sLen.getD i 0)))]) hl [1, 2, 0, 3] rfl), by omega, sNe_step hx2 c_2⟩ (by omega)
    · refine lv_iload hx hb dJ13_indexOfChar_22 (lv_at hl 2 rfl) ?_
      exact z_iret (v := nI (x)) hx hb hr hS (sIdx_in (by omega) hsl.2 hsl.1 c_2) (by omega) (by omega) dJ13_indexOfChar_24

set_option maxHeartbeats 4000000 in
set_option maxRecDepth 100000 in
theorem mJ13_indexOf (l : Launch) (D : va_G) (dA : Nat → ClassId) (ad : Nat → Nat) (sz : Nat) (i : Nat) (k : Nat) (h7 : i < 7) (hk : k < 128) : Met l yJ13_indexOf (ws_ yJ13_indexOf cJ13_indexOf 4 (some .int)) ({ frames := 1, cells := 0, slots := 0, locals := 30 }) (va_Pc [.ref (ad (20 + i)), .int (nI (k)), .int (nI (0)), .int (nI (sLen.getD i 0))] (zP D dA ad (fun q => sz ≤ q) sz (fun H => True))) (zQi (fun rz H => (rz < 0 ↔ nI k ∉ sByt.getD i [])) (fun q => sz ≤ q)) (0) (0) (fun q => sz ≤ q) := by
  refine Met.ofW (cc := cJ13_indexOf) (maxL := 4) (ret := (some .int)) (by decide) rfl ?_
  intro p e s m args below meth c s₁ B hml hv
  obtain ⟨rfl, hsz, hC, hP⟩ := hv
  have hx := B.exec
  have hb := B.bytes
  have hr := B.returns
  have hts := atoms_spec (ws := ws_ yJ13_indexOf cJ13_indexOf 4 (some .int)) B.pre
  have hts : ∀ w ∈ lw_all, w.before _ s = true := fun w h => hts w (List.mem_cons_of_mem _ h)
  have hown : s.vm.findClass RJ13 = some m.cls := findClass_of_methodNamed B.named
  have hlocks := B.notSynchronized
  subst hsz
  have hK := hC.K
  have hA : ∀ q : Nat, s.heap.size ≤ q → s.heap.size ≤ q := fun _ h => h
  have hS : va_S (fun q => s.heap.size ≤ q) s.heap s.heap [] := va_S.rf
  have hP : va_P D vwCl [] s.heap := va_Pnil
  have hsl := sLen_ok i (by omega)
  have hl := lv_entry ([.ref (ad (20 + i)), .int (nI (k)), .int (nI (0)), .int (nI (sLen.getD i 0))]) (n := 4) (Nat.le_of_ble_eq_true rfl)
  rw [lg_entry_eq]
  generalize (lg_sl ([.ref (ad (20 + i)), .int (nI (k)), .int (nI (0)), .int (nI (sLen.getD i 0))]) ++ List.replicate (4 - (lg_sl ([.ref (ad (20 + i)), .int (nI (k)), .int (nI (0)), .int (nI (sLen.getD i 0))])).length) Slot.unset).toArray = ls at hl ⊢
  have hl : lv_has ls 4 [(0, .ref (ad (20 + i))), (1, .int (nI (k))), (2, .int (nI (0))), (3, .int (nI (sLen.getD i 0)))] := hl
  refine lv_iload_n hx hb dJ13_indexOf_0 rfl (lv_at hl 1 rfl) ?_
  refine z_cSi (As := [.int (nI (k))]) (rest := []) ⟨hx, hb, hml, hown, hts⟩ (mJ13_canEncode l D dA ad s.heap.size k (by omega)) (va_cwS 1 hts (lw_S q485 q486 q73 q487) rfl rfl rfl (by decide +kernel) ⟨Nat.le_of_ble_eq_true rfl, Nat.le_of_ble_eq_true rfl⟩) hC hS (fun _ h => hA _ (Nat.le_trans hS.1 h)) trivial rfl rfl hl.1 (Nat.le_of_ble_eq_true rfl) dJ13_indexOf_1 ⟨Nat.le_of_ble_eq_true rfl, Nat.le_of_ble_eq_true rfl⟩ (fun r_1 H locs hQ hF hS => ?_)
  obtain rfl : nI (1) = r_1 := hQ.symm
  refine lv_if_ne (tgt := 9) hx hb dJ13_indexOf_4 (by decide) (fun c_2 => ?_) (fun c_2 => ?_)
  · refine lv_iload_n hx hb dJ13_indexOf_9 rfl (lv_at hl 2 rfl) ?_
    refine lv_iconst (v := nI (0)) hx hb dJ13_indexOf_10 (by decide) ?_
    refine va_mmax hx hb (hml.trans hl.1.symm) hown (hts _ q488) (hts _ q377) (hts _ q70) (hts _ q378) (Nat.le_of_ble_eq_true rfl) (Nat.le_of_ble_eq_true rfl) (by first | exact Nat.le_of_ble_eq_true rfl | (show _ ≤ _; simp only [headSpec]; omega)) (by first | exact Nat.le_of_ble_eq_true rfl | (show _ ≤ _; simp only [headSpec]; omega)) dJ13_indexOf_11 ?_
    refine lv_tope (y := nI (0)) (by decide) ?_
    refine lv_istore_n (lv' := [(2, .int (nI (0))), (0, .ref (ad (20 + i))), (1, .int (nI (k))), (3, .int (nI (sLen.getD i 0)))]) hx hb dJ13_indexOf_14 rfl hl (by decide) rfl (fun ls hl => ?_)
    refine lv_iload_n hx hb dJ13_indexOf_15 rfl (lv_at hl 3 rfl) ?_
    refine lv_aload_n hx hb dJ13_indexOf_16 rfl (lv_at hl 1 rfl) ?_
    refine va_tlen (v := nI (sLen.getD i 0)) hx hb (hC.st.1 (i) (by omega)).2.2.2 hS rfl dJ13_indexOf_17 ?_
    refine va_mmin hx hb (hml.trans hl.1.symm) hown (hts _ q489) (hts _ q410) (hts _ q70) (hts _ q411) (Nat.le_of_ble_eq_true rfl) (Nat.le_of_ble_eq_true rfl) (by first | exact Nat.le_of_ble_eq_true rfl | (show _ ≤ _; simp only [headSpec]; omega)) (by first | exact Nat.le_of_ble_eq_true rfl | (show _ ≤ _; simp only [headSpec]; omega)) dJ13_indexOf_18 ?_
    refine lv_tope (y := nI (if sLen.getD i 0 < sLen.getD i 0 then sLen.getD i 0 else sLen.getD i 0)) (mn_n (by omega) (by omega)) ?_
    refine lv_tope (y := nI (sLen.getD i 0)) (by rw [ite_self]) ?_
    refine lv_istore_n (lv' := [(3, .int (nI (sLen.getD i 0))), (2, .int (nI (0))), (0, .ref (ad (20 + i))), (1, .int (nI (k)))]) hx hb dJ13_indexOf_21 rfl hl (by decide) rfl (fun ls hl => ?_)
    refine lv_iload_n hx hb dJ13_indexOf_22 rfl (lv_at hl 1 rfl) ?_
    refine lv_iload_n hx hb dJ13_indexOf_23 rfl (lv_at hl 0 rfl) ?_
    refine lv_icmp_lt (tgt := 29) hx hb dJ13_indexOf_24 (by decide) (fun c_3 => ?_) (fun c_3 => ?_)
    · have c_3 := (nI_ltI (by omega) (by omega)).1 c_3
      refine lv_aload_n hx hb dJ13_indexOf_29 rfl (lv_at hl 2 rfl) ?_
      refine lv_iload_n hx hb dJ13_indexOf_30 rfl (lv_at hl 3 rfl) ?_
      refine lv_iload_n hx hb dJ13_indexOf_31 rfl (lv_at hl 1 rfl) ?_
      refine lv_iload_n hx hb dJ13_indexOf_32 rfl (lv_at hl 0 rfl) ?_
      refine z_cSi (As := [.ref (ad (20 + i)), .int (nI (k)), .int (nI (0)), .int (nI (sLen.getD i 0))]) (rest := []) ⟨hx, hb, hml, hown, hts⟩ (mJ13_indexOfChar l D dA ad H.size i k (by omega) (by omega)) (va_cwS 4 hts (lw_S q490 q491 q73 q492) rfl rfl rfl (by decide +kernel) ⟨Nat.le_of_ble_eq_true rfl, Nat.le_of_ble_eq_true rfl⟩) hC hS (fun _ h => hA _ (Nat.le_trans hS.1 h)) trivial rfl rfl hl.1 (Nat.le_of_ble_eq_true rfl) dJ13_indexOf_33 ⟨Nat.le_of_ble_eq_true rfl, Nat.le_of_ble_eq_true rfl⟩ (fun r_4 H locs hQ hF hS => ?_)
      exact z_iret (v := r_4) hx hb hr hS (hQ) (by omega) (by omega) dJ13_indexOf_36
    · have c_3 := mt (nI_ltI (by omega) (by omega)).2 c_3
      refine lv_iconst (v := (-1)) hx hb dJ13_indexOf_27 (by decide) ?_
      exact z_iret (v := (-1)) hx hb hr hS (sIdx_out (x := 0) hsl.1 (fun j hj => absurd hj (by omega)) (by omega)) (by omega) (by omega) dJ13_indexOf_28
  · exact absurd c_2 (by decide)

set_option maxHeartbeats 4000000 in
set_option maxRecDepth 100000 in
theorem mJ7_indexOf_2 (l : Launch) (D : va_G) (dA : Nat → ClassId) (ad : Nat → Nat) (sz : Nat) (i : Nat) (k : Nat) (h7 : i < 7) (hk : k < 128) : Met l yJ7_indexOf_2 (ws_ yJ7_indexOf_2 cJ7_indexOf_2 3 (some .int)) ({ frames := 2, cells := 0, slots := 0, locals := 70 }) (va_Pc [.ref (ad (10 + i)), .int (nI (k)), .int (nI (0))] (zP D dA ad (fun q => sz ≤ q) sz (fun H => True))) (zQi (fun rz H => (rz < 0 ↔ nI k ∉ sByt.getD i [])) (fun q => sz ≤ q)) (0) (0) (fun q => sz ≤ q) := by
  refine Met.ofW (cc := cJ7_indexOf_2) (maxL := 3) (ret := (some .int)) (by decide) rfl ?_
  intro p e s m args below meth c s₁ B hml hv
  obtain ⟨rfl, hsz, hC, hP⟩ := hv
  have hx := B.exec
  have hb := B.bytes
  have hr := B.returns
  have hts := atoms_spec (ws := ws_ yJ7_indexOf_2 cJ7_indexOf_2 3 (some .int)) B.pre
  have hts : ∀ w ∈ lw_all, w.before _ s = true := fun w h => hts w (List.mem_cons_of_mem _ h)
  have hown : s.vm.findClass RJ7 = some m.cls := findClass_of_methodNamed B.named
  have hlocks := B.notSynchronized
  subst hsz
  have hK := hC.K
  have hA : ∀ q : Nat, s.heap.size ≤ q → s.heap.size ≤ q := fun _ h => h
  have hS : va_S (fun q => s.heap.size ≤ q) s.heap s.heap [] := va_S.rf
  have hP : va_P D vwCl [] s.heap := va_Pnil
  have hl := lv_entry ([.ref (ad (10 + i)), .int (nI (k)), .int (nI (0))]) (n := 3) (Nat.le_of_ble_eq_true rfl)
  rw [lg_entry_eq]
  generalize (lg_sl ([.ref (ad (10 + i)), .int (nI (k)), .int (nI (0))]) ++ List.replicate (3 - (lg_sl ([.ref (ad (10 + i)), .int (nI (k)), .int (nI (0))])).length) Slot.unset).toArray = ls at hl ⊢
  have hl : lv_has ls 3 [(0, .ref (ad (10 + i))), (1, .int (nI (k))), (2, .int (nI (0)))] := hl
  refine lv_aload_n hx hb dJ7_indexOf_2_0 rfl (lv_at hl 0 rfl) ?_
  refine z_cVi (As := []) (rest := []) ⟨hx, hb, hml, hown, hts⟩ (mJ7_isLatin1 l D dA ad s.heap.size i (by omega)) (cwV 0 hts (lw_V q469 q470 q471 q65 q472) rfl rfl rfl (by decide +kernel) ⟨Nat.le_of_ble_eq_true rfl, Nat.le_of_ble_eq_true rfl⟩) hC hS (fun _ h => hA _ (Nat.le_trans hS.1 h)) trivial (vk_recv (i := i) hC.st (by omega) hS) rfl rfl hl.1 (Nat.le_of_ble_eq_true rfl) dJ7_indexOf_2_1 ⟨Nat.le_of_ble_eq_true rfl, Nat.le_of_ble_eq_true rfl⟩ (fun r_1 H locs hQ hF hS => ?_)
  obtain rfl : nI (1) = r_1 := hQ.symm
  refine lv_if_eq (tgt := 23) hx hb dJ7_indexOf_2_4 (by decide) (fun c_2 => ?_) (fun c_2 => ?_)
  · exact absurd c_2 (by decide)
  · refine lv_aload_n hx hb dJ7_indexOf_2_7 rfl (lv_at hl 0 rfl) ?_
    refine vk_getf (v := .ref (ad (20 + i))) hx hb (hC.st.1 (i) (by omega)).2.2.1 hS hown (hts _ q1644) (fun _ h9 => h9) dJ7_indexOf_2_8 ?_
    refine lv_iload_n hx hb dJ7_indexOf_2_11 rfl (lv_at hl 1 rfl) ?_
    refine lv_iload_n hx hb dJ7_indexOf_2_12 rfl (lv_at hl 2 rfl) ?_
    refine lv_aload_n hx hb dJ7_indexOf_2_13 rfl (lv_at hl 0 rfl) ?_
    refine z_cVi (As := []) (rest := [.int (nI (0)), .int (nI (k)), .ref (ad (20 + i))]) ⟨hx, hb, hml, hown, hts⟩ (mJ7_length l D dA ad H.size i (by omega)) (cwV 0 hts (lw_V q474 q475 q476 q65 q477) rfl rfl rfl (by decide +kernel) ⟨Nat.le_of_ble_eq_true rfl, Nat.le_of_ble_eq_true rfl⟩) hC hS (fun _ h => hA _ (Nat.le_trans hS.1 h)) trivial (vk_recv (i := i) hC.st (by omega) hS) rfl rfl hl.1 (Nat.le_of_ble_eq_true rfl) dJ7_indexOf_2_14 ⟨Nat.le_of_ble_eq_true rfl, Nat.le_of_ble_eq_true rfl⟩ (fun r_3 H locs hQ hF hS => ?_)
    obtain rfl : nI (sLen.getD i 0) = r_3 := hQ.symm
    refine z_cSi (As := [.ref (ad (20 + i)), .int (nI (k)), .int (nI (0)), .int (nI (sLen.getD i 0))]) (rest := []) ⟨hx, hb, hml, hown, hts⟩ (mJ13_indexOf l D dA ad H.size i k (by omega) (by omega)) (va_cwS 4 hts (lw_S q482 q483 q73 q484) rfl rfl rfl (by decide +kernel) ⟨Nat.le_of_ble_eq_true rfl, Nat.le_of_ble_eq_true rfl⟩) hC hS (fun _ h => hA _ (Nat.le_trans hS.1 h)) trivial rfl rfl hl.1 (Nat.le_of_ble_eq_true rfl) dJ7_indexOf_2_17 ⟨Nat.le_of_ble_eq_true rfl, Nat.le_of_ble_eq_true rfl⟩ (fun r_4 H locs hQ hF hS => ?_)
    refine lv_goto (tgt := 36) hx hb dJ7_indexOf_2_20 (by decide) ?_
    exact z_iret (v := r_4) hx hb hr hS (hQ) (by omega) (by omega) dJ7_indexOf_2_36

set_option maxHeartbeats 4000000 in
set_option maxRecDepth 100000 in
theorem mJ7_indexOf (l : Launch) (D : va_G) (dA : Nat → ClassId) (ad : Nat → Nat) (sz : Nat) (i : Nat) (k : Nat) (h7 : i < 7) (hk : k < 128) : Met l yJ7_indexOf (ws_ yJ7_indexOf cJ7_indexOf 2 (some .int)) ({ frames := 3, cells := 0, slots := 0, locals := 100 }) (va_Pc [.ref (ad (10 + i)), .int (nI (k))] (zP D dA ad (fun q => sz ≤ q) sz (fun H => True))) (zQi (fun rz H => (rz < 0 ↔ nI k ∉ sByt.getD i [])) (fun q => sz ≤ q)) (0) (0) (fun q => sz ≤ q) := by
  refine Met.ofW (cc := cJ7_indexOf) (maxL := 2) (ret := (some .int)) (by decide) rfl ?_
  intro p e s m args below meth c s₁ B hml hv
  obtain ⟨rfl, hsz, hC, hP⟩ := hv
  have hx := B.exec
  have hb := B.bytes
  have hr := B.returns
  have hts := atoms_spec (ws := ws_ yJ7_indexOf cJ7_indexOf 2 (some .int)) B.pre
  have hts : ∀ w ∈ lw_all, w.before _ s = true := fun w h => hts w (List.mem_cons_of_mem _ h)
  have hown : s.vm.findClass RJ7 = some m.cls := findClass_of_methodNamed B.named
  have hlocks := B.notSynchronized
  subst hsz
  have hK := hC.K
  have hA : ∀ q : Nat, s.heap.size ≤ q → s.heap.size ≤ q := fun _ h => h
  have hS : va_S (fun q => s.heap.size ≤ q) s.heap s.heap [] := va_S.rf
  have hP : va_P D vwCl [] s.heap := va_Pnil
  have hl := lv_entry ([.ref (ad (10 + i)), .int (nI (k))]) (n := 2) (Nat.le_of_ble_eq_true rfl)
  rw [lg_entry_eq]
  generalize (lg_sl ([.ref (ad (10 + i)), .int (nI (k))]) ++ List.replicate (2 - (lg_sl ([.ref (ad (10 + i)), .int (nI (k))])).length) Slot.unset).toArray = ls at hl ⊢
  have hl : lv_has ls 2 [(0, .ref (ad (10 + i))), (1, .int (nI (k)))] := hl
  refine lv_aload_n hx hb dJ7_indexOf_0 rfl (lv_at hl 0 rfl) ?_
  refine lv_iload_n hx hb dJ7_indexOf_1 rfl (lv_at hl 1 rfl) ?_
  refine lv_iconst (v := nI (0)) hx hb dJ7_indexOf_2 (by decide) ?_
  refine z_cVi (As := [.int (nI (k)), .int (nI (0))]) (rest := []) ⟨hx, hb, hml, hown, hts⟩ (mJ7_indexOf_2 l D dA ad s.heap.size i k (by omega) (by omega)) (cwV 2 hts (lw_V q465 q466 q467 q65 q468) rfl rfl rfl (by decide +kernel) ⟨Nat.le_of_ble_eq_true rfl, Nat.le_of_ble_eq_true rfl⟩) hC hS (fun _ h => hA _ (Nat.le_trans hS.1 h)) trivial (vk_recv (i := i) hC.st (by omega) hS) rfl rfl hl.1 (Nat.le_of_ble_eq_true rfl) dJ7_indexOf_3 ⟨Nat.le_of_ble_eq_true rfl, Nat.le_of_ble_eq_true rfl⟩ (fun r_1 H locs hQ hF hS => ?_)
  exact z_iret (v := r_1) hx hb hr hS (hQ) (by omega) (by omega) dJ7_indexOf_6
