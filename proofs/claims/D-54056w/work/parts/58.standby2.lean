set_option maxHeartbeats 4000000 in
set_option maxRecDepth 100000 in
theorem mX3_cut (l : Launch) (D : va_G) (dA : Nat → ClassId) (ad : Nat → Nat) (A : Nat → Prop) (sz : Nat) (sy : Nat) (rc : Nat) (ap : Nat) (ac : Nat) (bs : Nat) (bw : Nat) (stk : Int32) (Wb : Nat) (k : Nat) (hA : ∀ q, sz ≤ q → A q) (hW : Wb < 2 ^ 101) (h1 : rc ≤ 100) (h2 : ap ≤ 100) (h3 : ac ≤ 1) (h4 : k ≤ 100) (hD : va_D A [(sy, .inr (3, [.int (nI (rc)), .int (nI (ap)), .ref bs, .int (nI (ac))])), (bs, .inr (10, [.ref bw, .int (nI (uOf Wb)), .int stk])), (bw, .inl (dA 1, 2, .inr (.inl (lwd Wb))))]) : Met l yX3_cut (ws_ yX3_cut cX3_cut 2 none) ({ frames := 4, cells := 0, slots := 0, locals := 150 }) (va_Pc [.ref sy, .int (nI (k))] (zP D dA ad A sz (fun H => va_P D vwCl [(sy, .inr (3, [.int (nI (rc)), .int (nI (ap)), .ref bs, .int (nI (ac))])), (bs, .inr (10, [.ref bw, .int (nI (uOf Wb)), .int stk])), (bw, .inl (dA 1, 2, .inr (.inl (lwd Wb))))] H))) (zQv (fun H => True ∧ va_P D vwCl [(sy, .inr (3, [.int (nI (if k < rc then k else rc)), .int (nI (if k < ap then k else ap)), .ref bs, .int (nI (if k < ap then 1 else ac))])), (bs, .inr (10, [.ref bw, .int (nI (uOf (Wb % 2 ^ (k + 1)))), .int stk])), (bw, .inl (dA 1, 2, .inr (.inl (lwd (Wb % 2 ^ (k + 1))))))] H) A) (0) (0) A := by
  refine Met.ofW (cc := cX3_cut) (maxL := 2) (ret := none) (by decide) rfl ?_
  intro p e s m args below meth c s₁ B hml hv
  obtain ⟨rfl, hsz, hC, hP⟩ := hv
  have hx := B.exec
  have hb := B.bytes
  have hr := B.returns
  have hts := atoms_spec (ws := ws_ yX3_cut cX3_cut 2 none) B.pre
  have hts : ∀ w ∈ lw_all, w.before _ s = true := fun w h => hts w (List.mem_cons_of_mem _ h)
  have hown : s.vm.findClass RX3 = some m.cls := findClass_of_methodNamed B.named
  have hlocks := B.notSynchronized
  subst hsz
  have hK := hC.K
  have hS : va_S A s.heap s.heap [] := va_S.rf
  have hP : va_P D vwCl [(sy, .inr (3, [.int (nI (rc)), .int (nI (ap)), .ref bs, .int (nI (ac))])), (bs, .inr (10, [.ref bw, .int (nI (uOf Wb)), .int stk])), (bw, .inl (dA 1, 2, .inr (.inl (lwd Wb))))] s.heap := hP
  have hl := lv_entry ([.ref sy, .int (nI (k))]) (n := 2) (Nat.le_of_ble_eq_true rfl)
  rw [lg_entry_eq]
  generalize (lg_sl ([.ref sy, .int (nI (k))]) ++ List.replicate (2 - (lg_sl ([.ref sy, .int (nI (k))])).length) Slot.unset).toArray = ls at hl ⊢
  have hl : lv_has ls 2 [(0, .ref sy), (1, .int (nI (k)))] := hl
  refine lv_aload_n hx hb dX3_cut_0 rfl (lv_at hl 0 rfl) ?_
  refine lv_dup hx hb dX3_cut_1 rfl ?_
  refine va_get (D := D) (ci := 3) (v := .int (nI (ac))) (C := RX3) (T := TX3) (N := 4) hx hb hts in_X3 hown hK hP 0 rfl rfl 3 (by decide) (hts _ q180) (fun _ h9 => h9) rfl dX3_cut_2 ?_
  refine lv_aload_n hx hb dX3_cut_5 rfl (lv_at hl 0 rfl) ?_
  refine va_get (D := D) (ci := 3) (v := .int (nI (ap))) (C := RX3) (T := TX3) (N := 4) hx hb hts in_X3 hown hK hP 0 rfl rfl 1 (by decide) (hts _ q174) (fun _ h9 => h9) rfl dX3_cut_6 ?_
  refine lv_iload_n hx hb dX3_cut_9 rfl (lv_at hl 1 rfl) ?_
  refine lv_icmp_le (tgt := 17) hx hb dX3_cut_10 (by decide) (fun c_1 => ?_) (fun c_1 => ?_)
  · have c_1 := (nI_leI (by omega) (by omega)).1 c_1
    refine lv_iconst (v := nI (0)) hx hb dX3_cut_17 (by decide) ?_
    refine lv_ior hx hb dX3_cut_18 ?_
    refine lv_tope (y := nI (if k < ap then 1 else ac)) (by rw [if_neg (by omega)]; rcases (show ac = 0 ∨ ac = 1 by omega) with rfl | rfl <;> decide) ?_
    refine va_put (D := D) (ci := 3) (v := .int (nI (if k < ap then 1 else ac))) (ty := .boolean) (C := RX3) (T := TX3) (N := 4) hx hb hts in_X3 tyX3 tyX3_ok nmX3 hown hK hP hD hS 0 rfl rfl 3 (by decide) (hts _ q180) (fun _ h9 => h9) rfl (by decide +kernel) (by rcases (show (if k < ap then 1 else ac) = 0 ∨ (if k < ap then 1 else ac) = 1 by split <;> omega) with e9 | e9 <;> rw [e9] <;> rfl) (by rcases (show (if k < ap then 1 else ac) = 0 ∨ (if k < ap then 1 else ac) = 1 by split <;> omega) with e9 | e9 <;> rw [e9] <;> rfl) (Nat.le_of_ble_eq_true rfl) dX3_cut_19 (fun H locs hP hD hS => ?_)
    have hP : va_P D vwCl [(sy, .inr (3, [.int (nI (rc)), .int (nI (ap)), .ref bs, .int (nI (if k < ap then 1 else ac))])), (bs, .inr (10, [.ref bw, .int (nI (uOf Wb)), .int stk])), (bw, .inl (dA 1, 2, .inr (.inl (lwd Wb))))] H := hP
    have hD : va_D A [(sy, .inr (3, [.int (nI (rc)), .int (nI (ap)), .ref bs, .int (nI (if k < ap then 1 else ac))])), (bs, .inr (10, [.ref bw, .int (nI (uOf Wb)), .int stk])), (bw, .inl (dA 1, 2, .inr (.inl (lwd Wb))))] := hD
    refine lv_aload_n hx hb dX3_cut_22 rfl (lv_at hl 0 rfl) ?_
    refine lv_aload_n hx hb dX3_cut_23 rfl (lv_at hl 0 rfl) ?_
    refine va_get (D := D) (ci := 3) (v := .int (nI (rc))) (C := RX3) (T := TX3) (N := 4) hx hb hts in_X3 hown hK hP 0 rfl rfl 0 (by decide) (hts _ q171) (fun _ h9 => h9) rfl dX3_cut_24 ?_
    refine lv_iload_n hx hb dX3_cut_27 rfl (lv_at hl 1 rfl) ?_
    refine va_mmin hx hb (hml.trans hl.1.symm) hown (hts _ q770) (hts _ q410) (hts _ q70) (hts _ q411) (Nat.le_of_ble_eq_true rfl) (Nat.le_of_ble_eq_true rfl) (by first | exact Nat.le_of_ble_eq_true rfl | (show _ ≤ _; simp only [headSpec]; omega)) (by first | exact Nat.le_of_ble_eq_true rfl | (show _ ≤ _; simp only [headSpec]; omega)) dX3_cut_28 ?_
    refine lv_tope (y := nI (if k < rc then k else rc)) (mn_n (by omega) (by omega)) ?_
    refine va_put (D := D) (ci := 3) (v := .int (nI (if k < rc then k else rc))) (ty := .int) (C := RX3) (T := TX3) (N := 4) hx hb hts in_X3 tyX3 tyX3_ok nmX3 hown hK hP hD hS 0 rfl rfl 0 (by decide) (hts _ q171) (fun _ h9 => h9) rfl (by decide +kernel) rfl rfl (Nat.le_of_ble_eq_true rfl) dX3_cut_31 (fun H locs hP hD hS => ?_)
    have hP : va_P D vwCl [(sy, .inr (3, [.int (nI (if k < rc then k else rc)), .int (nI (ap)), .ref bs, .int (nI (if k < ap then 1 else ac))])), (bs, .inr (10, [.ref bw, .int (nI (uOf Wb)), .int stk])), (bw, .inl (dA 1, 2, .inr (.inl (lwd Wb))))] H := hP
    have hD : va_D A [(sy, .inr (3, [.int (nI (if k < rc then k else rc)), .int (nI (ap)), .ref bs, .int (nI (if k < ap then 1 else ac))])), (bs, .inr (10, [.ref bw, .int (nI (uOf Wb)), .int stk])), (bw, .inl (dA 1, 2, .inr (.inl (lwd Wb))))] := hD
    refine lv_aload_n hx hb dX3_cut_34 rfl (lv_at hl 0 rfl) ?_
    refine lv_aload_n hx hb dX3_cut_35 rfl (lv_at hl 0 rfl) ?_
    refine va_get (D := D) (ci := 3) (v := .int (nI (ap))) (C := RX3) (T := TX3) (N := 4) hx hb hts in_X3 hown hK hP 0 rfl rfl 1 (by decide) (hts _ q174) (fun _ h9 => h9) rfl dX3_cut_36 ?_
    refine lv_iload_n hx hb dX3_cut_39 rfl (lv_at hl 1 rfl) ?_
    refine va_mmin hx hb (hml.trans hl.1.symm) hown (hts _ q770) (hts _ q410) (hts _ q70) (hts _ q411) (Nat.le_of_ble_eq_true rfl) (Nat.le_of_ble_eq_true rfl) (by first | exact Nat.le_of_ble_eq_true rfl | (show _ ≤ _; simp only [headSpec]; omega)) (by first | exact Nat.le_of_ble_eq_true rfl | (show _ ≤ _; simp only [headSpec]; omega)) dX3_cut_40 ?_
    refine lv_tope (y := nI (if k < ap then k else ap)) (mn_n (by omega) (by omega)) ?_
    refine va_put (D := D) (ci := 3) (v := .int (nI (if k < ap then k else ap))) (ty := .int) (C := RX3) (T := TX3) (N := 4) hx hb hts in_X3 tyX3 tyX3_ok nmX3 hown hK hP hD hS 0 rfl rfl 1 (by decide) (hts _ q174) (fun _ h9 => h9) rfl (by decide +kernel) rfl rfl (Nat.le_of_ble_eq_true rfl) dX3_cut_43 (fun H locs hP hD hS => ?_)
    have hP : va_P D vwCl [(sy, .inr (3, [.int (nI (if k < rc then k else rc)), .int (nI (if k < ap then k else ap)), .ref bs, .int (nI (if k < ap then 1 else ac))])), (bs, .inr (10, [.ref bw, .int (nI (uOf Wb)), .int stk])), (bw, .inl (dA 1, 2, .inr (.inl (lwd Wb))))] H := hP
    have hD : va_D A [(sy, .inr (3, [.int (nI (if k < rc then k else rc)), .int (nI (if k < ap then k else ap)), .ref bs, .int (nI (if k < ap then 1 else ac))])), (bs, .inr (10, [.ref bw, .int (nI (uOf Wb)), .int stk])), (bw, .inl (dA 1, 2, .inr (.inl (lwd Wb))))] := hD
    refine lv_aload_n hx hb dX3_cut_46 rfl (lv_at hl 0 rfl) ?_
    refine va_get (D := D) (ci := 3) (v := .ref bs) (C := RX3) (T := TX3) (N := 4) hx hb hts in_X3 hown hK hP 0 rfl rfl 2 (by decide) (hts _ q177) (fun _ h9 => h9) rfl dX3_cut_47 ?_
    refine lv_iload_n hx hb dX3_cut_50 rfl (lv_at hl 1 rfl) ?_
    refine lv_iconst (v := nI (1)) hx hb dX3_cut_51 (by decide) ?_
    refine lv_iadd hx hb dX3_cut_52 ?_
    refine lv_tope (y := nI (k + 1)) (nI_add _ _) ?_
    refine lv_bipush (v := nI (101)) hx hb dX3_cut_53 (by decide) ?_
    have hDc := (hD.sub (ws' := [(bs, .inr (10, [.ref bw, .int (nI (uOf Wb)), .int stk])), (bw, .inl (dA 1, 2, .inr (.inl (lwd Wb))))]) [1, 2] (by decide) rfl).self (sz := H.size)
    have hFc := va_free (wc := [(bs, .inr (10, [.ref bw, .int (nI (uOf Wb)), .int stk])), (bw, .inl (dA 1, 2, .inr (.inl (lwd Wb))))]) hD hS hA [1, 2] rfl
    refine z_cVv (As := [.int (nI (k + 1)), .int (nI (101))]) (rest := []) ⟨hx, hb, hml, hown, hts⟩ (mJ3_clear_2 l D dA ad (va_A [(bs, .inr (10, [.ref bw, .int (nI (uOf Wb)), .int stk])), (bw, .inl (dA 1, 2, .inr (.inl (lwd Wb))))] H.size) H.size bs bw stk Wb (k + 1) (fun _ h => Or.inr h) (by omega) (by omega) (by omega) hDc) (cwV 2 hts (lw_V q771 q772 q773 q61 q774) rfl rfl rfl (by decide +kernel) ⟨Nat.le_of_ble_eq_true rfl, Nat.le_of_ble_eq_true rfl⟩) hC hS (hFc) (hP.sub (ws' := [(bs, .inr (10, [.ref bw, .int (nI (uOf Wb)), .int stk])), (bw, .inl (dA 1, 2, .inr (.inl (lwd Wb))))]) [1, 2] rfl) (va_recv hK hP (ci := 10) (q0 := 1) rfl rfl) rfl rfl hl.1 (Nat.le_of_ble_eq_true rfl) dX3_cut_55 ⟨Nat.le_of_ble_eq_true rfl, Nat.le_of_ble_eq_true rfl⟩ (fun H locs hQ hF hS => ?_)
    obtain ⟨hQ, hP1⟩ := hQ
    obtain ⟨hP, hD⟩ := va_join (wr := [(sy, .inr (3, [.int (nI (if k < rc then k else rc)), .int (nI (if k < ap then k else ap)), .ref bs, .int (nI (if k < ap then 1 else ac))]))]) (w1 := [(bs, .inr (10, [.ref bw, .int (nI (uOf (Wb % 2 ^ (k + 1)))), .int stk])), (bw, .inl (dA 1, 2, .inr (.inl (lwd (Wb % 2 ^ (k + 1))))))]) hP hD [1, 2] [0] rfl rfl (by decide) (by decide) hF.2 hFc hP1 (hDc.same rfl)
    have hP := hP.sub (ws' := [(sy, .inr (3, [.int (nI (if k < rc then k else rc)), .int (nI (if k < ap then k else ap)), .ref bs, .int (nI (if k < ap then 1 else ac))])), (bs, .inr (10, [.ref bw, .int (nI (uOf (Wb % 2 ^ (k + 1)))), .int stk])), (bw, .inl (dA 1, 2, .inr (.inl (lwd (Wb % 2 ^ (k + 1))))))]) [0, 1, 2] rfl
    have hD := hD.sub (ws' := [(sy, .inr (3, [.int (nI (if k < rc then k else rc)), .int (nI (if k < ap then k else ap)), .ref bs, .int (nI (if k < ap then 1 else ac))])), (bs, .inr (10, [.ref bw, .int (nI (uOf (Wb % 2 ^ (k + 1)))), .int stk])), (bw, .inl (dA 1, 2, .inr (.inl (lwd (Wb % 2 ^ (k + 1))))))]) [0, 1, 2] (by decide) rfl
    exact z_vret hx hb hr hS (⟨trivial, hP⟩) (by omega) (by omega) dX3_cut_58
  · have c_1 := mt (nI_leI (by omega) (by omega)).2 c_1
    refine lv_iconst (v := nI (1)) hx hb dX3_cut_13 (by decide) ?_
    refine lv_goto (tgt := 18) hx hb dX3_cut_14 (by decide) ?_
    refine lv_ior hx hb dX3_cut_18 ?_
    refine lv_tope (y := nI (if k < ap then 1 else ac)) (by rw [if_pos (by omega)]; rcases (show ac = 0 ∨ ac = 1 by omega) with rfl | rfl <;> decide) ?_
    refine va_put (D := D) (ci := 3) (v := .int (nI (if k < ap then 1 else ac))) (ty := .boolean) (C := RX3) (T := TX3) (N := 4) hx hb hts in_X3 tyX3 tyX3_ok nmX3 hown hK hP hD hS 0 rfl rfl 3 (by decide) (hts _ q180) (fun _ h9 => h9) rfl (by decide +kernel) (by rcases (show (if k < ap then 1 else ac) = 0 ∨ (if k < ap then 1 else ac) = 1 by split <;> omega) with e9 | e9 <;> rw [e9] <;> rfl) (by rcases (show (if k < ap then 1 else ac) = 0 ∨ (if k < ap then 1 else ac) = 1 by split <;> omega) with e9 | e9 <;> rw [e9] <;> rfl) (Nat.le_of_ble_eq_true rfl) dX3_cut_19 (fun H locs hP hD hS => ?_)
    have hP : va_P D vwCl [(sy, .inr (3, [.int (nI (rc)), .int (nI (ap)), .ref bs, .int (nI (if k < ap then 1 else ac))])), (bs, .inr (10, [.ref bw, .int (nI (uOf Wb)), .int stk])), (bw, .inl (dA 1, 2, .inr (.inl (lwd Wb))))] H := hP
    have hD : va_D A [(sy, .inr (3, [.int (nI (rc)), .int (nI (ap)), .ref bs, .int (nI (if k < ap then 1 else ac))])), (bs, .inr (10, [.ref bw, .int (nI (uOf Wb)), .int stk])), (bw, .inl (dA 1, 2, .inr (.inl (lwd Wb))))] := hD
    refine lv_aload_n hx hb dX3_cut_22 rfl (lv_at hl 0 rfl) ?_
    refine lv_aload_n hx hb dX3_cut_23 rfl (lv_at hl 0 rfl) ?_
    refine va_get (D := D) (ci := 3) (v := .int (nI (rc))) (C := RX3) (T := TX3) (N := 4) hx hb hts in_X3 hown hK hP 0 rfl rfl 0 (by decide) (hts _ q171) (fun _ h9 => h9) rfl dX3_cut_24 ?_
    refine lv_iload_n hx hb dX3_cut_27 rfl (lv_at hl 1 rfl) ?_
    refine va_mmin hx hb (hml.trans hl.1.symm) hown (hts _ q770) (hts _ q410) (hts _ q70) (hts _ q411) (Nat.le_of_ble_eq_true rfl) (Nat.le_of_ble_eq_true rfl) (by first | exact Nat.le_of_ble_eq_true rfl | (show _ ≤ _; simp only [headSpec]; omega)) (by first | exact Nat.le_of_ble_eq_true rfl | (show _ ≤ _; simp only [headSpec]; omega)) dX3_cut_28 ?_
    refine lv_tope (y := nI (if k < rc then k else rc)) (mn_n (by omega) (by omega)) ?_
    refine va_put (D := D) (ci := 3) (v := .int (nI (if k < rc then k else rc))) (ty := .int) (C := RX3) (T := TX3) (N := 4) hx hb hts in_X3 tyX3 tyX3_ok nmX3 hown hK hP hD hS 0 rfl rfl 0 (by decide) (hts _ q171) (fun _ h9 => h9) rfl (by decide +kernel) rfl rfl (Nat.le_of_ble_eq_true rfl) dX3_cut_31 (fun H locs hP hD hS => ?_)
    have hP : va_P D vwCl [(sy, .inr (3, [.int (nI (if k < rc then k else rc)), .int (nI (ap)), .ref bs, .int (nI (if k < ap then 1 else ac))])), (bs, .inr (10, [.ref bw, .int (nI (uOf Wb)), .int stk])), (bw, .inl (dA 1, 2, .inr (.inl (lwd Wb))))] H := hP
    have hD : va_D A [(sy, .inr (3, [.int (nI (if k < rc then k else rc)), .int (nI (ap)), .ref bs, .int (nI (if k < ap then 1 else ac))])), (bs, .inr (10, [.ref bw, .int (nI (uOf Wb)), .int stk])), (bw, .inl (dA 1, 2, .inr (.inl (lwd Wb))))] := hD
    refine lv_aload_n hx hb dX3_cut_34 rfl (lv_at hl 0 rfl) ?_
    refine lv_aload_n hx hb dX3_cut_35 rfl (lv_at hl 0 rfl) ?_
    refine va_get (D := D) (ci := 3) (v := .int (nI (ap))) (C := RX3) (T := TX3) (N := 4) hx hb hts in_X3 hown hK hP 0 rfl rfl 1 (by decide) (hts _ q174) (fun _ h9 => h9) rfl dX3_cut_36 ?_
    refine lv_iload_n hx hb dX3_cut_39 rfl (lv_at hl 1 rfl) ?_
    refine va_mmin hx hb (hml.trans hl.1.symm) hown (hts _ q770) (hts _ q410) (hts _ q70) (hts _ q411) (Nat.le_of_ble_eq_true rfl) (Nat.le_of_ble_eq_true rfl) (by first | exact Nat.le_of_ble_eq_true rfl | (show _ ≤ _; simp only [headSpec]; omega)) (by first | exact Nat.le_of_ble_eq_true rfl | (show _ ≤ _; simp only [headSpec]; omega)) dX3_cut_40 ?_
    refine lv_tope (y := nI (if k < ap then k else ap)) (mn_n (by omega) (by omega)) ?_
    refine va_put (D := D) (ci := 3) (v := .int (nI (if k < ap then k else ap))) (ty := .int) (C := RX3) (T := TX3) (N := 4) hx hb hts in_X3 tyX3 tyX3_ok nmX3 hown hK hP hD hS 0 rfl rfl 1 (by decide) (hts _ q174) (fun _ h9 => h9) rfl (by decide +kernel) rfl rfl (Nat.le_of_ble_eq_true rfl) dX3_cut_43 (fun H locs hP hD hS => ?_)
    have hP : va_P D vwCl [(sy, .inr (3, [.int (nI (if k < rc then k else rc)), .int (nI (if k < ap then k else ap)), .ref bs, .int (nI (if k < ap then 1 else ac))])), (bs, .inr (10, [.ref bw, .int (nI (uOf Wb)), .int stk])), (bw, .inl (dA 1, 2, .inr (.inl (lwd Wb))))] H := hP
    have hD : va_D A [(sy, .inr (3, [.int (nI (if k < rc then k else rc)), .int (nI (if k < ap then k else ap)), .ref bs, .int (nI (if k < ap then 1 else ac))])), (bs, .inr (10, [.ref bw, .int (nI (uOf Wb)), .int stk])), (bw, .inl (dA 1, 2, .inr (.inl (lwd Wb))))] := hD
    refine lv_aload_n hx hb dX3_cut_46 rfl (lv_at hl 0 rfl) ?_
    refine va_get (D := D) (ci := 3) (v := .ref bs) (C := RX3) (T := TX3) (N := 4) hx hb hts in_X3 hown hK hP 0 rfl rfl 2 (by decide) (hts _ q177) (fun _ h9 => h9) rfl dX3_cut_47 ?_
    refine lv_iload_n hx hb dX3_cut_50 rfl (lv_at hl 1 rfl) ?_
    refine lv_iconst (v := nI (1)) hx hb dX3_cut_51 (by decide) ?_
    refine lv_iadd hx hb dX3_cut_52 ?_
    refine lv_tope (y := nI (k + 1)) (nI_add _ _) ?_
    refine lv_bipush (v := nI (101)) hx hb dX3_cut_53 (by decide) ?_
    have hDc := (hD.sub (ws' := [(bs, .inr (10, [.ref bw, .int (nI (uOf Wb)), .int stk])), (bw, .inl (dA 1, 2, .inr (.inl (lwd Wb))))]) [1, 2] (by decide) rfl).self (sz := H.size)
    have hFc := va_free (wc := [(bs, .inr (10, [.ref bw, .int (nI (uOf Wb)), .int stk])), (bw, .inl (dA 1, 2, .inr (.inl (lwd Wb))))]) hD hS hA [1, 2] rfl
    refine z_cVv (As := [.int (nI (k + 1)), .int (nI (101))]) (rest := []) ⟨hx, hb, hml, hown, hts⟩ (mJ3_clear_2 l D dA ad (va_A [(bs, .inr (10, [.ref bw, .int (nI (uOf Wb)), .int stk])), (bw, .inl (dA 1, 2, .inr (.inl (lwd Wb))))] H.size) H.size bs bw stk Wb (k + 1) (fun _ h => Or.inr h) (by omega) (by omega) (by omega) hDc) (cwV 2 hts (lw_V q771 q772 q773 q61 q774) rfl rfl rfl (by decide +kernel) ⟨Nat.le_of_ble_eq_true rfl, Nat.le_of_ble_eq_true rfl⟩) hC hS (hFc) (hP.sub (ws' := [(bs, .inr (10, [.ref bw, .int (nI (uOf Wb)), .int stk])), (bw, .inl (dA 1, 2, .inr (.inl (lwd Wb))))]) [1, 2] rfl) (va_recv hK hP (ci := 10) (q0 := 1) rfl rfl) rfl rfl hl.1 (Nat.le_of_ble_eq_true rfl) dX3_cut_55 ⟨Nat.le_of_ble_eq_true rfl, Nat.le_of_ble_eq_true rfl⟩ (fun H locs hQ hF hS => ?_)
    obtain ⟨hQ, hP1⟩ := hQ
    obtain ⟨hP, hD⟩ := va_join (wr := [(sy, .inr (3, [.int (nI (if k < rc then k else rc)), .int (nI (if k < ap then k else ap)), .ref bs, .int (nI (if k < ap then 1 else ac))]))]) (w1 := [(bs, .inr (10, [.ref bw, .int (nI (uOf (Wb % 2 ^ (k + 1)))), .int stk])), (bw, .inl (dA 1, 2, .inr (.inl (lwd (Wb % 2 ^ (k + 1))))))]) hP hD [1, 2] [0] rfl rfl (by decide) (by decide) hF.2 hFc hP1 (hDc.same rfl)
    have hP := hP.sub (ws' := [(sy, .inr (3, [.int (nI (if k < rc then k else rc)), .int (nI (if k < ap then k else ap)), .ref bs, .int (nI (if k < ap then 1 else ac))])), (bs, .inr (10, [.ref bw, .int (nI (uOf (Wb % 2 ^ (k + 1)))), .int stk])), (bw, .inl (dA 1, 2, .inr (.inl (lwd (Wb % 2 ^ (k + 1))))))]) [0, 1, 2] rfl
    have hD := hD.sub (ws' := [(sy, .inr (3, [.int (nI (if k < rc then k else rc)), .int (nI (if k < ap then k else ap)), .ref bs, .int (nI (if k < ap then 1 else ac))])), (bs, .inr (10, [.ref bw, .int (nI (uOf (Wb % 2 ^ (k + 1)))), .int stk])), (bw, .inl (dA 1, 2, .inr (.inl (lwd (Wb % 2 ^ (k + 1))))))]) [0, 1, 2] (by decide) rfl
    exact z_vret hx hb hr hS (⟨trivial, hP⟩) (by omega) (by omega) dX3_cut_58

set_option maxHeartbeats 4000000 in
set_option maxRecDepth 100000 in
theorem mX3_hasNext (l : Launch) (D : va_G) (dA : Nat → ClassId) (ad : Nat → Nat) (sz : Nat) (sy : Nat) (rc : Nat) (ap : Nat) (ac : Nat) (bs : Nat) (bw : Nat) (stk : Int32) (Wb : Nat) (hW : Wb < 2 ^ 101) (h1 : rc ≤ 100) (h2 : ap ≤ 100) (h3 : ac ≤ 1) : Met l yX3_hasNext (ws_ yX3_hasNext cX3_hasNext 1 (some .boolean)) ({ frames := 2, cells := 0, slots := 0, locals := 60 }) (va_Pc [.ref sy] (zP D dA ad (fun q => sz ≤ q) sz (fun H => va_P D vwCl [(sy, .inr (3, [.int (nI (rc)), .int (nI (ap)), .ref bs, .int (nI (ac))])), (bs, .inr (10, [.ref bw, .int (nI (uOf Wb)), .int stk])), (bw, .inl (dA 1, 2, .inr (.inl (lwd Wb))))] H))) (zQi (fun rz H => rz = bI (ap < rc ∧ ¬ Wb.testBit (ap + 1) = true)) (fun q => sz ≤ q)) (0) (0) (fun q => sz ≤ q) := by
  refine Met.ofW (cc := cX3_hasNext) (maxL := 1) (ret := (some .boolean)) (by decide) rfl ?_
  intro p e s m args below meth c s₁ B hml hv
  obtain ⟨rfl, hsz, hC, hP⟩ := hv
  have hx := B.exec
  have hb := B.bytes
  have hr := B.returns
  have hts := atoms_spec (ws := ws_ yX3_hasNext cX3_hasNext 1 (some .boolean)) B.pre
  have hts : ∀ w ∈ lw_all, w.before _ s = true := fun w h => hts w (List.mem_cons_of_mem _ h)
  have hown : s.vm.findClass RX3 = some m.cls := findClass_of_methodNamed B.named
  have hlocks := B.notSynchronized
  subst hsz
  have hK := hC.K
  have hA : ∀ q : Nat, s.heap.size ≤ q → s.heap.size ≤ q := fun _ h => h
  have hS : va_S (fun q => s.heap.size ≤ q) s.heap s.heap [] := va_S.rf
  have hP : va_P D vwCl [(sy, .inr (3, [.int (nI (rc)), .int (nI (ap)), .ref bs, .int (nI (ac))])), (bs, .inr (10, [.ref bw, .int (nI (uOf Wb)), .int stk])), (bw, .inl (dA 1, 2, .inr (.inl (lwd Wb))))] s.heap := hP
  have hl := lv_entry ([.ref sy]) (n := 1) (Nat.le_of_ble_eq_true rfl)
  rw [lg_entry_eq]
  generalize (lg_sl ([.ref sy]) ++ List.replicate (1 - (lg_sl ([.ref sy])).length) Slot.unset).toArray = ls at hl ⊢
  have hl : lv_has ls 1 [(0, .ref sy)] := hl
  refine lv_aload_n hx hb dX3_hasNext_0 rfl (lv_at hl 0 rfl) ?_
  refine va_get (D := D) (ci := 3) (v := .int (nI (ap))) (C := RX3) (T := TX3) (N := 4) hx hb hts in_X3 hown hK hP 0 rfl rfl 1 (by decide) (hts _ q174) (fun _ h9 => h9) rfl dX3_hasNext_1 ?_
  refine lv_aload_n hx hb dX3_hasNext_4 rfl (lv_at hl 0 rfl) ?_
  refine va_get (D := D) (ci := 3) (v := .int (nI (rc))) (C := RX3) (T := TX3) (N := 4) hx hb hts in_X3 hown hK hP 0 rfl rfl 0 (by decide) (hts _ q171) (fun _ h9 => h9) rfl dX3_hasNext_5 ?_
  refine lv_icmp_ge (tgt := 31) hx hb dX3_hasNext_8 (by decide) (fun c_1 => ?_) (fun c_1 => ?_)
  · have c_1 := (nI_leI (by omega) (by omega)).1 c_1
    refine lv_iconst (v := nI (0)) hx hb dX3_hasNext_31 (by decide) ?_
    exact z_zret (v := nI (0)) hx hb hr (by first | rfl | decide) hS ((bI_f (fun q => absurd q.1 (by omega))).symm) (by omega) (by omega) dX3_hasNext_32
  · have c_1 := mt (nI_leI (by omega) (by omega)).2 c_1
    refine lv_aload_n hx hb dX3_hasNext_11 rfl (lv_at hl 0 rfl) ?_
    refine va_get (D := D) (ci := 3) (v := .ref bs) (C := RX3) (T := TX3) (N := 4) hx hb hts in_X3 hown hK hP 0 rfl rfl 2 (by decide) (hts _ q177) (fun _ h9 => h9) rfl dX3_hasNext_12 ?_
    refine lv_aload_n hx hb dX3_hasNext_15 rfl (lv_at hl 0 rfl) ?_
    refine va_get (D := D) (ci := 3) (v := .int (nI (ap))) (C := RX3) (T := TX3) (N := 4) hx hb hts in_X3 hown hK hP 0 rfl rfl 1 (by decide) (hts _ q174) (fun _ h9 => h9) rfl dX3_hasNext_16 ?_
    refine lv_iconst (v := nI (1)) hx hb dX3_hasNext_19 (by decide) ?_
    refine lv_iadd hx hb dX3_hasNext_20 ?_
    refine lv_tope (y := nI (ap + 1)) (nI_add _ _) ?_
    refine z_cVi (As := [.int (nI (ap + 1))]) (rest := []) ⟨hx, hb, hml, hown, hts⟩ (mJ3_get l D dA ad s.heap.size bs bw stk Wb (ap + 1) (by omega) (by omega)) (cwV 1 hts (lw_V q810 q694 q695 q61 q696) rfl rfl rfl (by decide +kernel) ⟨Nat.le_of_ble_eq_true rfl, Nat.le_of_ble_eq_true rfl⟩) hC hS (fun _ h => hA _ (Nat.le_trans hS.1 h)) (hP.sub (ws' := [(bs, .inr (10, [.ref bw, .int (nI (uOf Wb)), .int stk])), (bw, .inl (dA 1, 2, .inr (.inl (lwd Wb))))]) [1, 2] rfl) (va_recv hK hP (ci := 10) (q0 := 1) rfl rfl) rfl rfl hl.1 (Nat.le_of_ble_eq_true rfl) dX3_hasNext_21 ⟨Nat.le_of_ble_eq_true rfl, Nat.le_of_ble_eq_true rfl⟩ (fun r_2 H locs hQ hF hS => ?_)
    have hP := va_P.ro hF hP
    obtain rfl : bI (Wb.testBit (ap + 1) = true) = r_2 := hQ.symm
    refine lv_if_ne (tgt := 31) hx hb dX3_hasNext_24 (by decide) (fun c_3 => ?_) (fun c_3 => ?_)
    · have c_3 := bI_1.1 c_3
      refine lv_iconst (v := nI (0)) hx hb dX3_hasNext_31 (by decide) ?_
      exact z_zret (v := nI (0)) hx hb hr (by first | rfl | decide) hS ((bI_f (fun q => q.2 c_3)).symm) (by omega) (by omega) dX3_hasNext_32
    · have c_3 := bI_0.1 c_3
      refine lv_iconst (v := nI (1)) hx hb dX3_hasNext_27 (by decide) ?_
      refine lv_goto (tgt := 32) hx hb dX3_hasNext_28 (by decide) ?_
      exact z_zret (v := nI (1)) hx hb hr (by first | rfl | decide) hS ((bI_t ⟨by omega, c_3⟩).symm) (by omega) (by omega) dX3_hasNext_32

set_option maxHeartbeats 4000000 in
set_option maxRecDepth 100000 in
theorem mX3_canServe (l : Launch) (D : va_G) (dA : Nat → ClassId) (ad : Nat → Nat) (sz : Nat) (sy : Nat) (rc : Int32) (ap : Nat) (ac : Nat) (bs : Nat) (k : Nat) (h1 : ap ≤ 100) (h2 : k ≤ 100) (h3 : ac ≤ 1) : Met l yX3_canServe (ws_ yX3_canServe cX3_canServe 2 (some .boolean)) ({ frames := 0, cells := 0, slots := 0, locals := 0 }) (va_Pc [.ref sy, .int (nI (k))] (zP D dA ad (fun q => sz ≤ q) sz (fun H => va_P D vwCl [(sy, .inr (3, [.int rc, .int (nI (ap)), .ref bs, .int (nI (ac))]))] H))) (zQi (fun rz H => rz = bI (ac = 0 ∧ k ≤ ap)) (fun q => sz ≤ q)) (0) (0) (fun q => sz ≤ q) := by
  refine Met.ofW (cc := cX3_canServe) (maxL := 2) (ret := (some .boolean)) (by decide) rfl ?_
  intro p e s m args below meth c s₁ B hml hv
  obtain ⟨rfl, hsz, hC, hP⟩ := hv
  have hx := B.exec
  have hb := B.bytes
  have hr := B.returns
  have hts := atoms_spec (ws := ws_ yX3_canServe cX3_canServe 2 (some .boolean)) B.pre
  have hts : ∀ w ∈ lw_all, w.before _ s = true := fun w h => hts w (List.mem_cons_of_mem _ h)
  have hown : s.vm.findClass RX3 = some m.cls := findClass_of_methodNamed B.named
  have hlocks := B.notSynchronized
  subst hsz
  have hK := hC.K
  have hA : ∀ q : Nat, s.heap.size ≤ q → s.heap.size ≤ q := fun _ h => h
  have hS : va_S (fun q => s.heap.size ≤ q) s.heap s.heap [] := va_S.rf
  have hP : va_P D vwCl [(sy, .inr (3, [.int rc, .int (nI (ap)), .ref bs, .int (nI (ac))]))] s.heap := hP
  have hl := lv_entry ([.ref sy, .int (nI (k))]) (n := 2) (Nat.le_of_ble_eq_true rfl)
  rw [lg_entry_eq]
  generalize (lg_sl ([.ref sy, .int (nI (k))]) ++ List.replicate (2 - (lg_sl ([.ref sy, .int (nI (k))])).length) Slot.unset).toArray = ls at hl ⊢
  have hl : lv_has ls 2 [(0, .ref sy), (1, .int (nI (k)))] := hl
  refine lv_aload_n hx hb dX3_canServe_0 rfl (lv_at hl 0 rfl) ?_
  refine va_get (D := D) (ci := 3) (v := .int (nI (ac))) (C := RX3) (T := TX3) (N := 4) hx hb hts in_X3 hown hK hP 0 rfl rfl 3 (by decide) (hts _ q180) (fun _ h9 => h9) rfl dX3_canServe_1 ?_
  refine lv_if_ne (tgt := 19) hx hb dX3_canServe_4 (by decide) (fun c_1 => ?_) (fun c_1 => ?_)
  · have c_1 := mt (nI_eq (by omega) (by omega)).2 (show ¬ nI _ = nI 0 from c_1)
    refine lv_iconst (v := nI (0)) hx hb dX3_canServe_19 (by decide) ?_
    exact z_zret (v := nI (0)) hx hb hr (by first | rfl | decide) hS ((bI_f (by omega)).symm) (by omega) (by omega) dX3_canServe_20
  · have c_1 := (nI_eq (by omega) (by omega)).1 (show nI _ = nI 0 from c_1)
    refine lv_aload_n hx hb dX3_canServe_7 rfl (lv_at hl 0 rfl) ?_
    refine va_get (D := D) (ci := 3) (v := .int (nI (ap))) (C := RX3) (T := TX3) (N := 4) hx hb hts in_X3 hown hK hP 0 rfl rfl 1 (by decide) (hts _ q174) (fun _ h9 => h9) rfl dX3_canServe_8 ?_
    refine lv_iload_n hx hb dX3_canServe_11 rfl (lv_at hl 1 rfl) ?_
    refine lv_icmp_lt (tgt := 19) hx hb dX3_canServe_12 (by decide) (fun c_2 => ?_) (fun c_2 => ?_)
    · have c_2 := (nI_ltI (by omega) (by omega)).1 c_2
      refine lv_iconst (v := nI (0)) hx hb dX3_canServe_19 (by decide) ?_
      exact z_zret (v := nI (0)) hx hb hr (by first | rfl | decide) hS ((bI_f (by omega)).symm) (by omega) (by omega) dX3_canServe_20
    · have c_2 := mt (nI_ltI (by omega) (by omega)).2 c_2
      refine lv_iconst (v := nI (1)) hx hb dX3_canServe_15 (by decide) ?_
      refine lv_goto (tgt := 20) hx hb dX3_canServe_16 (by decide) ?_
      exact z_zret (v := nI (1)) hx hb hr (by first | rfl | decide) hS ((bI_t (by omega)).symm) (by omega) (by omega) dX3_canServe_20
