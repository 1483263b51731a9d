set_option maxHeartbeats 4000000 in
set_option maxRecDepth 100000 in
theorem mX0_primary (l : Launch) (D : va_G) (dA : Nat → ClassId) (ad : Nat → Nat) (sz : Nat) (xx : Nat) (st : Nat) (dq : Nat) (sb : Nat) (f : Nat → Int32) (M : Nat) (i : Int32) (ky : Int32) (hB : InvB f M) : Met l yX0_primary (ws_ yX0_primary cX0_primary 3 (some .int)) ({ frames := 9, cells := 0, slots := 0, locals := 280 }) (va_Pc [.ref xx, .int i, .int ky] (zP D dA ad (fun q => sz ≤ q) sz (fun H => va_P D vwCl [(xx, .inr (0, [.ref st, .ref dq, .ref sb]))] H ∧ SR D dA (fun q => sz ≤ q) f st H))) (zQi (fun rz H => rz = aPrimary f i ky) (fun q => sz ≤ q)) (0) (0) (fun q => sz ≤ q) := by
  refine Met.ofW (cc := cX0_primary) (maxL := 3) (ret := (some .int)) (by decide) rfl ?_
  intro p e s m args below meth c s₁ B hml hv
  obtain ⟨rfl, hsz, hC, hP⟩ := hv
  have hx := B.exec
  have hb := B.bytes
  have hr := B.returns
  have hts := atoms_spec (ws := ws_ yX0_primary cX0_primary 3 (some .int)) B.pre
  have hts : ∀ w ∈ lw_all, w.before _ s = true := fun w h => hts w (List.mem_cons_of_mem _ h)
  have hown : s.vm.findClass RX0 = some m.cls := findClass_of_methodNamed B.named
  have hlocks := B.notSynchronized
  subst hsz
  have hK := hC.K
  have hA : ∀ q : Nat, s.heap.size ≤ q → s.heap.size ≤ q := fun _ h => h
  have hS : va_S (fun q => s.heap.size ≤ q) s.heap s.heap [] := va_S.rf
  obtain ⟨hP, hP2⟩ := hP
  have hP : va_P D vwCl [(xx, .inr (0, [.ref st, .ref dq, .ref sb]))] s.heap := hP
  have hl := lv_entry ([.ref xx, .int i, .int ky]) (n := 3) (Nat.le_of_ble_eq_true rfl)
  rw [lg_entry_eq]
  generalize (lg_sl ([.ref xx, .int i, .int ky]) ++ List.replicate (3 - (lg_sl ([.ref xx, .int i, .int ky])).length) Slot.unset).toArray = ls at hl ⊢
  have hl : lv_has ls 3 [(0, .ref xx), (1, .int i), (2, .int ky)] := hl
  obtain ⟨jo, slo, sao, seo, alo, mco, aeo, h, t0, c0, d0, e0, W0, t1, c1, d1, e1, W1, hZS, hP2, hh0, hh1, hW0, hW1, hgp0, hgp1⟩ := hP2
  have hI := hB.a
  have hn9 := hI.2.1
  obtain ⟨qa0, qb0, qc0, qd0⟩ := InvA_ap hI (b := 0) (by omega)
  obtain ⟨qa1, qb1, qc1, qd1⟩ := InvA_ap hI (b := 1) (by omega)
  obtain ⟨hac0, ha0⟩ := hB.ac (b := 0) (by omega)
  obtain ⟨hac1, ha1⟩ := hB.ac (b := 1) (by omega)
  have hP := hP.app hZS.1
  have hP : va_P D vwCl [(xx, .inr (0, [.ref st, .ref dq, .ref sb])), (st, .inr (1, [.ref jo, .ref slo, .ref sao, .ref seo, .int (f 1), .int (f 2), .int (f 3), .int (f 4), .int (f 5), .int (f 6)])), (jo, .inr (2, [.ref alo])), (alo, .inr (9, [.int mco, .ref aeo, .int (nI (rN f))])), (slo, .inl (dA 0, 3, .inl (slF f))), (sao, .inl (dA 4, 2, .inr (.inr (.inr (.inr h))))), (seo, .inl (dA 0, 2, .inl (seF f))), (t0, .inr (3, [.int (nI (rcN f 0)), .int (nI (apN f 0)), .ref c0, .int (nI (acN f 0))])), (c0, .inr (10, [.ref d0, .int (nI (uOf W0)), .int e0])), (d0, .inl (dA 1, 2, .inr (.inl (lwd W0)))), (t1, .inr (3, [.int (nI (rcN f 1)), .int (nI (apN f 1)), .ref c1, .int (nI (acN f 1))])), (c1, .inr (10, [.ref d1, .int (nI (uOf W1)), .int e1])), (d1, .inl (dA 1, 2, .inr (.inl (lwd W1))))] s.heap := hP
  refine lv_iconst (v := nI (0)) hx hb dX0_primary_0 (by decide) ?_
  refine lv_iload_n hx hb dX0_primary_1 rfl (lv_at hl 1 rfl) ?_
  refine va_mmax hx hb (hml.trans hl.1.symm) hown (hts _ q952) (hts _ q377) (hts _ q70) (hts _ q378) (Nat.le_of_ble_eq_true rfl) (Nat.le_of_ble_eq_true rfl) (by first | exact Nat.le_of_ble_eq_true rfl | (show _ ≤ _; simp only [headSpec]; omega)) (by first | exact Nat.le_of_ble_eq_true rfl | (show _ ≤ _; simp only [headSpec]; omega)) dX0_primary_2 ?_
  refine z_cSi (As := [.int (if nI (0) < i then i else nI (0))]) (rest := []) ⟨hx, hb, hml, hown, hts⟩ (mX0_isSlot l D dA ad s.heap.size (if nI (0) < i then i else nI (0))) (va_cwS 1 hts (lw_S q545 q546 q54 q547) rfl rfl rfl (by decide +kernel) ⟨Nat.le_of_ble_eq_true rfl, Nat.le_of_ble_eq_true rfl⟩) hC hS (fun _ h => hA _ (Nat.le_trans hS.1 h)) trivial rfl rfl hl.1 (Nat.le_of_ble_eq_true rfl) dX0_primary_5 ⟨Nat.le_of_ble_eq_true rfl, Nat.le_of_ble_eq_true rfl⟩ (fun r_1 H locs hQ hF hS => ?_)
  have hP := va_P.ro hF hP
  obtain rfl : bI (nI 0 ≤ (if nI (0) < i then i else nI (0)) ∧ (if nI (0) < i then i else nI (0)) ≤ nI 2) = r_1 := hQ.symm
  refine lv_if_eq (tgt := 23) hx hb dX0_primary_8 (by decide) (fun c_2 => ?_) (fun c_2 => ?_)
  · have c_2 := bI_0.1 c_2
    refine lv_ldc (v := (-1000001)) hx hb hown (hts _ q592) dX0_primary_23 ?_
    exact z_iret (v := (-1000001)) hx hb hr hS (by unfold aPrimary; rw [if_neg (fun q => c_2 ((max_le (by decide)).2 q.2))]) (by omega) (by omega) dX0_primary_25
  · have c_2 := bI_1.1 c_2
    refine lv_iload_n hx hb dX0_primary_11 rfl (lv_at hl 1 rfl) ?_
    refine lv_iconst (v := (-1)) hx hb dX0_primary_12 (by decide) ?_
    refine lv_icmp_lt (tgt := 23) hx hb dX0_primary_13 (by decide) (fun c_3 => ?_) (fun c_3 => ?_)
    · refine lv_ldc (v := (-1000001)) hx hb hown (hts _ q592) dX0_primary_23 ?_
      exact z_iret (v := (-1000001)) hx hb hr hS (by unfold aPrimary; rw [if_neg (fun q => Int32.not_lt.2 q.1 c_3)]) (by omega) (by omega) dX0_primary_25
    · refine lv_iload_n hx hb dX0_primary_16 rfl (lv_at hl 2 rfl) ?_
      refine z_cSi (As := [.int ky]) (rest := []) ⟨hx, hb, hml, hown, hts⟩ (mX0_isKey l D dA ad H.size ky) (va_cwS 1 hts (lw_S q549 q550 q54 q551) rfl rfl rfl (by decide +kernel) ⟨Nat.le_of_ble_eq_true rfl, Nat.le_of_ble_eq_true rfl⟩) hC hS (fun _ h => hA _ (Nat.le_trans hS.1 h)) trivial rfl rfl hl.1 (Nat.le_of_ble_eq_true rfl) dX0_primary_17 ⟨Nat.le_of_ble_eq_true rfl, Nat.le_of_ble_eq_true rfl⟩ (fun r_4 H locs hQ hF hS => ?_)
      have hP := va_P.ro hF hP
      obtain rfl : bI (nI 0 ≤ ky ∧ ky ≤ nI 23) = r_4 := hQ.symm
      refine lv_if_ne (tgt := 26) hx hb dX0_primary_20 (by decide) (fun c_5 => ?_) (fun c_5 => ?_)
      · have c_5 := bI_1.1 c_5
        refine lv_iload_n hx hb dX0_primary_26 rfl (lv_at hl 1 rfl) ?_
        refine lv_if_lt (tgt := 48) hx hb dX0_primary_27 (by decide) (fun c_6 => ?_) (fun c_6 => ?_)
        · obtain rfl : i = -1 := lt_m1 c_3 c_6
          refine lv_aload_n hx hb dX0_primary_48 rfl (lv_at hl 0 rfl) ?_
          refine va_get (D := D) (ci := 0) (v := .ref st) (C := RX0) (T := TX0) (N := 3) hx hb hts in_X0 hown hK hP 0 rfl rfl 0 (by decide) (hts _ q284) (fun _ h9 => h9) rfl dX0_primary_49 ?_
          refine lv_iload_n hx hb dX0_primary_52 rfl (lv_at hl 1 rfl) ?_
          refine lv_iload_n hx hb dX0_primary_53 rfl (lv_at hl 2 rfl) ?_
          refine z_cVi (As := [.int (-1), .int ky]) (rest := []) ⟨hx, hb, hml, hown, hts⟩ (mX1_seenByA l D dA ad H.size st jo slo sao seo (f 1) (f 2) (f 3) (f 4) (f 5) (f 6) alo mco aeo (rN f) f ky) (cwV 2 hts (lw_V q953 q954 q955 q55 q956) rfl rfl rfl (by decide +kernel) ⟨Nat.le_of_ble_eq_true rfl, Nat.le_of_ble_eq_true rfl⟩) hC hS (fun _ h => hA _ (Nat.le_trans hS.1 h)) ⟨(hP.sub (ws' := [(st, .inr (1, [.ref jo, .ref slo, .ref sao, .ref seo, .int (f 1), .int (f 2), .int (f 3), .int (f 4), .int (f 5), .int (f 6)])), (jo, .inr (2, [.ref alo])), (alo, .inr (9, [.int mco, .ref aeo, .int (nI (rN f))]))]) [1, 2, 3] rfl), (hP2.kept hS).ro⟩ (va_recv hK hP (ci := 1) (q0 := 1) rfl rfl) rfl rfl hl.1 (Nat.le_of_ble_eq_true rfl) dX0_primary_54 ⟨Nat.le_of_ble_eq_true rfl, Nat.le_of_ble_eq_true rfl⟩ (fun r_7 H locs hQ hF hS => ?_)
          have hP := va_P.ro hF hP
          obtain rfl : vlC f ky (rN f) = r_7 := hQ.symm
          exact z_iret (v := vlC f ky (rN f)) hx hb hr hS (by unfold aPrimary; rw [if_pos ⟨Int32.not_lt.1 c_3, (max_le (by decide)).1 c_2⟩, if_pos c_5, if_pos (by decide)]; exact vlC_eq hB _ (Nat.le_refl _)) (by omega) (by omega) dX0_primary_57
        · obtain ⟨j, hj, rfl⟩ := zr_of (k := i) (N := 2) ⟨Int32.not_lt.1 c_6, (max_le (by decide)).1 c_2⟩ (by decide)
          refine lv_aload_n hx hb dX0_primary_30 rfl (lv_at hl 0 rfl) ?_
          refine va_get (D := D) (ci := 0) (v := .ref st) (C := RX0) (T := TX0) (N := 3) hx hb hts in_X0 hown hK hP 0 rfl rfl 0 (by decide) (hts _ q284) (fun _ h9 => h9) rfl dX0_primary_31 ?_
          refine va_getN (D := D) (ci := 1) (v := .ref slo) (C := RX1) (T := TX1) (N := 10) hx hb hts in_X1 hown hK hP 1 rfl rfl 1 (by decide) (Cx.nF hC (List.mem_of_getElem? (i := 6) rfl)) (fun _ h9 => h9) rfl dX0_primary_34 ?_
          refine lv_iload_n hx hb dX0_primary_37 rfl (lv_at hl 1 rfl) ?_
          refine va_iald hx hb hK hP 4 0 rfl rfl (vp_in_nI (by omega) (by omega)) dX0_primary_38 ?_
          refine lv_tope (y := (slF f) j) (by rw [nI_clamp (by omega)]) ?_
          refine lv_iconst (v := (-1)) hx hb dX0_primary_39 (by decide) ?_
          refine lv_icmp_ne (tgt := 48) hx hb dX0_primary_40 (by decide) (fun c_8 => ?_) (fun c_8 => ?_)
          · refine lv_aload_n hx hb dX0_primary_48 rfl (lv_at hl 0 rfl) ?_
            refine va_get (D := D) (ci := 0) (v := .ref st) (C := RX0) (T := TX0) (N := 3) hx hb hts in_X0 hown hK hP 0 rfl rfl 0 (by decide) (hts _ q284) (fun _ h9 => h9) rfl dX0_primary_49 ?_
            refine lv_iload_n hx hb dX0_primary_52 rfl (lv_at hl 1 rfl) ?_
            refine lv_iload_n hx hb dX0_primary_53 rfl (lv_at hl 2 rfl) ?_
            refine z_cVi (As := [.int (nI (j)), .int ky]) (rest := []) ⟨hx, hb, hml, hown, hts⟩ (mX1_seenByB l D dA ad H.size st jo slo sao seo (f 1) (f 2) (f 3) (f 4) (f 5) (f 6) alo mco aeo (rN f) f (slF f) j ky (by omega)) (cwV 2 hts (lw_V q953 q954 q955 q55 q956) rfl rfl rfl (by decide +kernel) ⟨Nat.le_of_ble_eq_true rfl, Nat.le_of_ble_eq_true rfl⟩) hC hS (fun _ h => hA _ (Nat.le_trans hS.1 h)) ⟨(hP.sub (ws' := [(st, .inr (1, [.ref jo, .ref slo, .ref sao, .ref seo, .int (f 1), .int (f 2), .int (f 3), .int (f 4), .int (f 5), .int (f 6)])), (jo, .inr (2, [.ref alo])), (alo, .inr (9, [.int mco, .ref aeo, .int (nI (rN f))])), (slo, .inl (dA 0, 3, .inl (slF f)))]) [1, 2, 3, 4] rfl), (hP2.kept hS).ro⟩ (va_recv hK hP (ci := 1) (q0 := 1) rfl rfl) rfl rfl hl.1 (Nat.le_of_ble_eq_true rfl) dX0_primary_54 ⟨Nat.le_of_ble_eq_true rfl, Nat.le_of_ble_eq_true rfl⟩ (fun r_9 H locs hQ hF hS => ?_)
            have hP := va_P.ro hF hP
            obtain rfl : seC f ((slF f) j) ky (rN f) = r_9 := hQ.symm
            exact z_iret (v := seC f ((slF f) j) ky (rN f)) hx hb hr hS (by unfold aPrimary; rw [if_pos ⟨Int32.not_lt.1 c_3, (max_le (by decide)).1 c_2⟩, if_pos c_5, if_neg (nI_pos (by omega)), nI_clamp (by omega), if_neg (fun q => c_8 ((slF_n hB (by omega)).2 q)), slF_v (fun q => c_8 ((slF_n hB (by omega)).2 q))]; exact seC_eq hB _ _) (by omega) (by omega) dX0_primary_57
          · refine lv_ldc (v := (-1000002)) hx hb hown (hts _ q947) dX0_primary_43 ?_
            refine lv_goto (tgt := 57) hx hb dX0_primary_45 (by decide) ?_
            exact z_iret (v := (-1000002)) hx hb hr hS (by unfold aPrimary; rw [if_pos ⟨Int32.not_lt.1 c_3, (max_le (by decide)).1 c_2⟩, if_pos c_5, if_neg (nI_pos (by omega)), nI_clamp (by omega), if_pos ((slF_n hB (by omega)).1 c_8)]) (by omega) (by omega) dX0_primary_57
      · have c_5 := bI_0.1 c_5
        refine lv_ldc (v := (-1000001)) hx hb hown (hts _ q592) dX0_primary_23 ?_
        exact z_iret (v := (-1000001)) hx hb hr hS (by unfold aPrimary; rw [if_pos ⟨Int32.not_lt.1 c_3, (max_le (by decide)).1 c_2⟩, if_neg c_5]) (by omega) (by omega) dX0_primary_25

set_option maxHeartbeats 4000000 in
set_option maxRecDepth 100000 in
theorem mX0_serves (l : Launch) (D : va_G) (dA : Nat → ClassId) (ad : Nat → Nat) (sz : Nat) (xx : Nat) (st : Nat) (dq : Nat) (sb : Nat) (f : Nat → Int32) (M : Nat) (fe : Int32) (hB : InvB f M) : Met l yX0_serves (ws_ yX0_serves cX0_serves 5 (some .int)) ({ frames := 5, cells := 0, slots := 0, locals := 130 }) (va_Pc [.ref xx, .int fe] (zP D dA ad (fun q => sz ≤ q) sz (fun H => va_P D vwCl [(xx, .inr (0, [.ref st, .ref dq, .ref sb]))] H ∧ SR D dA (fun q => sz ≤ q) f st H))) (zQi (fun rz H => rz = aServes f fe) (fun q => sz ≤ q)) (0) (0) (fun q => sz ≤ q) := by
  refine Met.ofW (cc := cX0_serves) (maxL := 5) (ret := (some .int)) (by decide) rfl ?_
  intro p e s m args below meth c s₁ B hml hv
  obtain ⟨rfl, hsz, hC, hP⟩ := hv
  have hx := B.exec
  have hb := B.bytes
  have hr := B.returns
  have hts := atoms_spec (ws := ws_ yX0_serves cX0_serves 5 (some .int)) B.pre
  have hts : ∀ w ∈ lw_all, w.before _ s = true := fun w h => hts w (List.mem_cons_of_mem _ h)
  have hown : s.vm.findClass RX0 = some m.cls := findClass_of_methodNamed B.named
  have hlocks := B.notSynchronized
  subst hsz
  have hK := hC.K
  have hA : ∀ q : Nat, s.heap.size ≤ q → s.heap.size ≤ q := fun _ h => h
  have hS : va_S (fun q => s.heap.size ≤ q) s.heap s.heap [] := va_S.rf
  obtain ⟨hP, hP2⟩ := hP
  have hP : va_P D vwCl [(xx, .inr (0, [.ref st, .ref dq, .ref sb]))] s.heap := hP
  have hl := lv_entry ([.ref xx, .int fe]) (n := 5) (Nat.le_of_ble_eq_true rfl)
  rw [lg_entry_eq]
  generalize (lg_sl ([.ref xx, .int fe]) ++ List.replicate (5 - (lg_sl ([.ref xx, .int fe])).length) Slot.unset).toArray = ls at hl ⊢
  have hl : lv_has ls 5 [(0, .ref xx), (1, .int fe)] := hl
  obtain ⟨jo, slo, sao, seo, alo, mco, aeo, h, t0, c0, d0, e0, W0, t1, c1, d1, e1, W1, hZS, hP2, hh0, hh1, hW0, hW1, hgp0, hgp1⟩ := hP2
  have hI := hB.a
  have hn9 := hI.2.1
  obtain ⟨qa0, qb0, qc0, qd0⟩ := InvA_ap hI (b := 0) (by omega)
  obtain ⟨qa1, qb1, qc1, qd1⟩ := InvA_ap hI (b := 1) (by omega)
  obtain ⟨hac0, ha0⟩ := hB.ac (b := 0) (by omega)
  obtain ⟨hac1, ha1⟩ := hB.ac (b := 1) (by omega)
  have hP := hP.app hZS.1
  have hP : va_P D vwCl [(xx, .inr (0, [.ref st, .ref dq, .ref sb])), (st, .inr (1, [.ref jo, .ref slo, .ref sao, .ref seo, .int (f 1), .int (f 2), .int (f 3), .int (f 4), .int (f 5), .int (f 6)])), (jo, .inr (2, [.ref alo])), (alo, .inr (9, [.int mco, .ref aeo, .int (nI (rN f))])), (slo, .inl (dA 0, 3, .inl (slF f))), (sao, .inl (dA 4, 2, .inr (.inr (.inr (.inr h))))), (seo, .inl (dA 0, 2, .inl (seF f))), (t0, .inr (3, [.int (nI (rcN f 0)), .int (nI (apN f 0)), .ref c0, .int (nI (acN f 0))])), (c0, .inr (10, [.ref d0, .int (nI (uOf W0)), .int e0])), (d0, .inl (dA 1, 2, .inr (.inl (lwd W0)))), (t1, .inr (3, [.int (nI (rcN f 1)), .int (nI (apN f 1)), .ref c1, .int (nI (acN f 1))])), (c1, .inr (10, [.ref d1, .int (nI (uOf W1)), .int e1])), (d1, .inl (dA 1, 2, .inr (.inl (lwd W1))))] s.heap := hP
  refine lv_aload_n hx hb dX0_serves_0 rfl (lv_at hl 0 rfl) ?_
  refine lv_iload_n hx hb dX0_serves_1 rfl (lv_at hl 1 rfl) ?_
  refine z_cVi (As := [.int fe]) (rest := []) ⟨hx, hb, hml, hown, hts⟩ (mX0_isFence l D dA ad s.heap.size xx st dq sb f M fe (hB)) (cwV 1 hts (lw_V q922 q924 qs18 q54 q925) rfl rfl rfl (by decide +kernel) ⟨Nat.le_of_ble_eq_true rfl, Nat.le_of_ble_eq_true rfl⟩) hC hS (fun _ h => hA _ (Nat.le_trans hS.1 h)) ⟨(hP.sub (ws' := [(xx, .inr (0, [.ref st, .ref dq, .ref sb]))]) [0] rfl), (SR.kept ⟨jo, slo, sao, seo, alo, mco, aeo, h, t0, c0, d0, e0, W0, t1, c1, d1, e1, W1, hZS, hP2, hh0, hh1, hW0, hW1, hgp0, hgp1⟩ hS).ro⟩ (va_recv hK hP (ci := 0) (q0 := 0) rfl rfl) rfl rfl hl.1 (Nat.le_of_ble_eq_true rfl) dX0_serves_2 ⟨Nat.le_of_ble_eq_true rfl, Nat.le_of_ble_eq_true rfl⟩ (fun r_1 H locs hQ hF hS => ?_)
  have hP := va_P.ro hF hP
  obtain rfl : bI (nI 0 ≤ fe ∧ fe ≤ f 0) = r_1 := hQ.symm
  refine lv_if_ne (tgt := 11) hx hb dX0_serves_5 (by decide) (fun c_2 => ?_) (fun c_2 => ?_)
  · have c_2 := bI_1.1 c_2
    obtain ⟨kf, hkf, rfl⟩ := zr_of (k := fe) (N := rN f) ⟨c_2.1, by rw [← hI.1]; exact c_2.2⟩ (by omega)
    refine lv_ldc (v := (-1000004)) hx hb hown (hts _ q962) dX0_serves_11 ?_
    refine lv_istore_n (lv' := [(2, .int (-1000004)), (0, .ref xx), (1, .int (nI (kf)))]) hx hb dX0_serves_13 rfl hl (by decide) rfl (fun ls hl => ?_)
    refine lv_iconst (v := nI (0)) hx hb dX0_serves_14 (by decide) ?_
    refine lv_istore_n (lv' := [(3, .int (nI (0))), (2, .int (-1000004)), (0, .ref xx), (1, .int (nI (kf)))]) hx hb dX0_serves_15 rfl hl (by decide) rfl (fun ls hl => ?_)
    refine lv_iload_n hx hb dX0_serves_16 rfl (lv_at hl 0 rfl) ?_
    refine lv_iconst (v := nI (2)) hx hb dX0_serves_17 (by decide) ?_
    refine lv_icmp_ge (tgt := 92) hx hb dX0_serves_18 (by decide) (fun c_3 => ?_) (fun c_3 => ?_)
    · exact absurd c_3 (by decide)
    · refine lv_iload_n hx hb dX0_serves_21 rfl (lv_at hl 1 rfl) ?_
      refine lv_if_lt (tgt := 52) hx hb dX0_serves_22 (by decide) (fun c_4 => ?_) (fun c_4 => ?_)
      · refine lv_iconst (v := nI (1)) hx hb dX0_serves_52 (by decide) ?_
        refine lv_goto (tgt := 57) hx hb dX0_serves_53 (by decide) ?_
        refine lv_istore (lv' := [(4, .int (nI (1))), (3, .int (nI (0))), (2, .int (-1000004)), (0, .ref xx), (1, .int (nI (kf)))]) hx hb dX0_serves_57 hl (by decide) rfl (fun ls hl => ?_)
        refine lv_aload_n hx hb dX0_serves_59 rfl (lv_at hl 3 rfl) ?_
        refine va_get (D := D) (ci := 0) (v := .ref st) (C := RX0) (T := TX0) (N := 3) hx hb hts in_X0 hown hK hP 0 rfl rfl 0 (by decide) (hts _ q284) (fun _ h9 => h9) rfl dX0_serves_60 ?_
        refine va_getN (D := D) (ci := 1) (v := .ref sao) (C := RX1) (T := TX1) (N := 10) hx hb hts in_X1 hown hK hP 1 rfl rfl 2 (by decide) (Cx.nF hC (List.mem_of_getElem? (i := 7) rfl)) (fun _ h9 => h9) rfl dX0_serves_63 ?_
        refine lv_iload_n hx hb dX0_serves_66 rfl (lv_at hl 1 rfl) ?_
        refine va_aldq hx hb hK hP 5 4 rfl rfl (vp_in_nI (by omega) (by omega)) dX0_serves_67 ?_
        refine lv_topv (y := .ref t0) (by rw [nI_clamp (by omega)]; rw [hh0]; rfl) ?_
        refine lv_iload_n hx hb dX0_serves_68 rfl (lv_at hl 4 rfl) ?_
        refine z_cVi (As := [.int (nI (kf))]) (rest := []) ⟨hx, hb, hml, hown, hts⟩ (mX3_canServe l D dA ad H.size t0 (nI (rcN f 0)) (apN f 0) (acN f 0) c0 kf (by omega) (by omega) (by omega)) (cwV 1 hts (lw_V q927 q928 q929 q60 q930) rfl rfl rfl (by decide +kernel) ⟨Nat.le_of_ble_eq_true rfl, Nat.le_of_ble_eq_true rfl⟩) hC hS (fun _ h => hA _ (Nat.le_trans hS.1 h)) (hP.sub (ws' := [(t0, .inr (3, [.int (nI (rcN f 0)), .int (nI (apN f 0)), .ref c0, .int (nI (acN f 0))]))]) [7] rfl) (va_recv hK hP (ci := 3) (q0 := 7) rfl rfl) rfl rfl hl.1 (Nat.le_of_ble_eq_true rfl) dX0_serves_69 ⟨Nat.le_of_ble_eq_true rfl, Nat.le_of_ble_eq_true rfl⟩ (fun r_5 H locs hQ hF hS => ?_)
        have hP := va_P.ro hF hP
        obtain rfl : bI ((acN f 0) = 0 ∧ kf ≤ (apN f 0)) = r_5 := hQ.symm
        refine lv_if_eq (tgt := 84) hx hb dX0_serves_72 (by decide) (fun c_6 => ?_) (fun c_6 => ?_)
        · have c_6 := bI_0.1 c_6
          refine lv_iload_n hx hb dX0_serves_84 rfl (lv_at hl 2 rfl) ?_
          refine lv_istore_n (lv' := [(2, .int (-1000004)), (4, .int (nI (1))), (3, .int (nI (0))), (0, .ref xx), (1, .int (nI (kf)))]) hx hb dX0_serves_85 rfl hl (by decide) rfl (fun ls hl => ?_)
          refine lv_iinc (v := nI (1)) (lv' := [(3, .int (nI (1))), (2, .int (-1000004)), (4, .int (nI (1))), (0, .ref xx), (1, .int (nI (kf)))]) hx hb dX0_serves_86 hl (k := 2) rfl (by decide) (by decide) rfl (fun ls hl => ?_)
          refine lv_goto (tgt := 16) hx hb dX0_serves_89 (by decide) ?_
          refine lv_iload_n hx hb dX0_serves_16 rfl (lv_at hl 0 rfl) ?_
          refine lv_iconst (v := nI (2)) hx hb dX0_serves_17 (by decide) ?_
          refine lv_icmp_ge (tgt := 92) hx hb dX0_serves_18 (by decide) (fun c_7 => ?_) (fun c_7 => ?_)
          · exact absurd c_7 (by decide)
          · refine lv_iload_n hx hb dX0_serves_21 rfl (lv_at hl 1 rfl) ?_
            refine lv_if_lt (tgt := 52) hx hb dX0_serves_22 (by decide) (fun c_8 => ?_) (fun c_8 => ?_)
            · refine lv_iconst (v := nI (1)) hx hb dX0_serves_52 (by decide) ?_
              refine lv_goto (tgt := 57) hx hb dX0_serves_53 (by decide) ?_
              refine lv_istore (lv' := [(4, .int (nI (1))), (3, .int (nI (1))), (2, .int (-1000004)), (0, .ref xx), (1, .int (nI (kf)))]) hx hb dX0_serves_57 hl (by decide) rfl (fun ls hl => ?_)
              refine lv_aload_n hx hb dX0_serves_59 rfl (lv_at hl 3 rfl) ?_
              refine va_get (D := D) (ci := 0) (v := .ref st) (C := RX0) (T := TX0) (N := 3) hx hb hts in_X0 hown hK hP 0 rfl rfl 0 (by decide) (hts _ q284) (fun _ h9 => h9) rfl dX0_serves_60 ?_
              refine va_getN (D := D) (ci := 1) (v := .ref sao) (C := RX1) (T := TX1) (N := 10) hx hb hts in_X1 hown hK hP 1 rfl rfl 2 (by decide) (Cx.nF hC (List.mem_of_getElem? (i := 7) rfl)) (fun _ h9 => h9) rfl dX0_serves_63 ?_
              refine lv_iload_n hx hb dX0_serves_66 rfl (lv_at hl 1 rfl) ?_
              refine va_aldq hx hb hK hP 5 4 rfl rfl (vp_in_nI (by omega) (by omega)) dX0_serves_67 ?_
              refine lv_topv (y := .ref t1) (by rw [nI_clamp (by omega)]; rw [hh1]; rfl) ?_
              refine lv_iload_n hx hb dX0_serves_68 rfl (lv_at hl 4 rfl) ?_
              refine z_cVi (As := [.int (nI (kf))]) (rest := []) ⟨hx, hb, hml, hown, hts⟩ (mX3_canServe l D dA ad H.size t1 (nI (rcN f 1)) (apN f 1) (acN f 1) c1 kf (by omega) (by omega) (by omega)) (cwV 1 hts (lw_V q927 q928 q929 q60 q930) rfl rfl rfl (by decide +kernel) ⟨Nat.le_of_ble_eq_true rfl, Nat.le_of_ble_eq_true rfl⟩) hC hS (fun _ h => hA _ (Nat.le_trans hS.1 h)) (hP.sub (ws' := [(t1, .inr (3, [.int (nI (rcN f 1)), .int (nI (apN f 1)), .ref c1, .int (nI (acN f 1))]))]) [10] rfl) (va_recv hK hP (ci := 3) (q0 := 10) rfl rfl) rfl rfl hl.1 (Nat.le_of_ble_eq_true rfl) dX0_serves_69 ⟨Nat.le_of_ble_eq_true rfl, Nat.le_of_ble_eq_true rfl⟩ (fun r_9 H locs hQ hF hS => ?_)
              have hP := va_P.ro hF hP
              obtain rfl : bI ((acN f 1) = 0 ∧ kf ≤ (apN f 1)) = r_9 := hQ.symm
              refine lv_if_eq (tgt := 84) hx hb dX0_serves_72 (by decide) (fun c_10 => ?_) (fun c_10 => ?_)
              · have c_10 := bI_0.1 c_10
                refine lv_iload_n hx hb dX0_serves_84 rfl (lv_at hl 2 rfl) ?_
                refine lv_istore_n (lv' := [(2, .int (-1000004)), (4, .int (nI (1))), (3, .int (nI (1))), (0, .ref xx), (1, .int (nI (kf)))]) hx hb dX0_serves_85 rfl hl (by decide) rfl (fun ls hl => ?_)
                refine lv_iinc (v := nI (2)) (lv' := [(3, .int (nI (2))), (2, .int (-1000004)), (4, .int (nI (1))), (0, .ref xx), (1, .int (nI (kf)))]) hx hb dX0_serves_86 hl (k := 2) rfl (by decide) (by decide) rfl (fun ls hl => ?_)
                refine lv_goto (tgt := 16) hx hb dX0_serves_89 (by decide) ?_
                refine lv_iload_n hx hb dX0_serves_16 rfl (lv_at hl 0 rfl) ?_
                refine lv_iconst (v := nI (2)) hx hb dX0_serves_17 (by decide) ?_
                refine lv_icmp_ge (tgt := 92) hx hb dX0_serves_18 (by decide) (fun c_11 => ?_) (fun c_11 => ?_)
                · refine lv_iload_n hx hb dX0_serves_92 rfl (lv_at hl 1 rfl) ?_
                  exact z_iret (v := (-1000004)) hx hb hr hS (by unfold aServes; rw [if_pos c_2, if_neg (fun q => c_6 ((aCan_iff hB (by omega) (by omega)).1 q)), if_neg (fun q => c_10 ((aCan_iff hB (by omega) (by omega)).1 q))] <;> rfl) (by omega) (by omega) dX0_serves_93
                · exact absurd c_11 (by decide)
              · have c_10 := bI_1.1 c_10
                refine lv_iload hx hb dX0_serves_75 (lv_at hl 0 rfl) ?_
                refine lv_if_eq (tgt := 84) hx hb dX0_serves_77 (by decide) (fun c_12 => ?_) (fun c_12 => ?_)
                · exact absurd c_12 (by decide)
                · refine lv_iload_n hx hb dX0_serves_80 rfl (lv_at hl 1 rfl) ?_
                  refine lv_goto (tgt := 85) hx hb dX0_serves_81 (by decide) ?_
                  refine lv_istore_n (lv' := [(2, .int (nI (1))), (4, .int (nI (1))), (3, .int (nI (1))), (0, .ref xx), (1, .int (nI (kf)))]) hx hb dX0_serves_85 rfl hl (by decide) rfl (fun ls hl => ?_)
                  refine lv_iinc (v := nI (2)) (lv' := [(3, .int (nI (2))), (2, .int (nI (1))), (4, .int (nI (1))), (0, .ref xx), (1, .int (nI (kf)))]) hx hb dX0_serves_86 hl (k := 2) rfl (by decide) (by decide) rfl (fun ls hl => ?_)
                  refine lv_goto (tgt := 16) hx hb dX0_serves_89 (by decide) ?_
                  refine lv_iload_n hx hb dX0_serves_16 rfl (lv_at hl 0 rfl) ?_
                  refine lv_iconst (v := nI (2)) hx hb dX0_serves_17 (by decide) ?_
                  refine lv_icmp_ge (tgt := 92) hx hb dX0_serves_18 (by decide) (fun c_13 => ?_) (fun c_13 => ?_)
                  · refine lv_iload_n hx hb dX0_serves_92 rfl (lv_at hl 1 rfl) ?_
                    exact z_iret (v := nI (1)) hx hb hr hS (by unfold aServes; rw [if_pos c_2, if_neg (fun q => c_6 ((aCan_iff hB (by omega) (by omega)).1 q)), if_pos ((aCan_iff hB (by omega) (by omega)).2 c_10)] <;> rfl) (by omega) (by omega) dX0_serves_93
                  · exact absurd c_13 (by decide)
            · exact absurd c_8 (by decide)
        · have c_6 := bI_1.1 c_6
          refine lv_iload hx hb dX0_serves_75 (lv_at hl 0 rfl) ?_
          refine lv_if_eq (tgt := 84) hx hb dX0_serves_77 (by decide) (fun c_14 => ?_) (fun c_14 => ?_)
          · exact absurd c_14 (by decide)
          · refine lv_iload_n hx hb dX0_serves_80 rfl (lv_at hl 1 rfl) ?_
            refine lv_goto (tgt := 85) hx hb dX0_serves_81 (by decide) ?_
            refine lv_istore_n (lv' := [(2, .int (nI (0))), (4, .int (nI (1))), (3, .int (nI (0))), (0, .ref xx), (1, .int (nI (kf)))]) hx hb dX0_serves_85 rfl hl (by decide) rfl (fun ls hl => ?_)
            refine lv_iinc (v := nI (1)) (lv' := [(3, .int (nI (1))), (2, .int (nI (0))), (4, .int (nI (1))), (0, .ref xx), (1, .int (nI (kf)))]) hx hb dX0_serves_86 hl (k := 2) rfl (by decide) (by decide) rfl (fun ls hl => ?_)
            refine lv_goto (tgt := 16) hx hb dX0_serves_89 (by decide) ?_
            refine lv_iload_n hx hb dX0_serves_16 rfl (lv_at hl 0 rfl) ?_
            refine lv_iconst (v := nI (2)) hx hb dX0_serves_17 (by decide) ?_
            refine lv_icmp_ge (tgt := 92) hx hb dX0_serves_18 (by decide) (fun c_15 => ?_) (fun c_15 => ?_)
            · exact absurd c_15 (by decide)
            · refine lv_iload_n hx hb dX0_serves_21 rfl (lv_at hl 1 rfl) ?_
              refine lv_if_lt (tgt := 52) hx hb dX0_serves_22 (by decide) (fun c_16 => ?_) (fun c_16 => ?_)
              · exact absurd c_16 (by decide)
              · refine lv_aload_n hx hb dX0_serves_25 rfl (lv_at hl 3 rfl) ?_
                refine va_get (D := D) (ci := 0) (v := .ref st) (C := RX0) (T := TX0) (N := 3) hx hb hts in_X0 hown hK hP 0 rfl rfl 0 (by decide) (hts _ q284) (fun _ h9 => h9) rfl dX0_serves_26 ?_
                refine va_getN (D := D) (ci := 1) (v := .ref sao) (C := RX1) (T := TX1) (N := 10) hx hb hts in_X1 hown hK hP 1 rfl rfl 2 (by decide) (Cx.nF hC (List.mem_of_getElem? (i := 7) rfl)) (fun _ h9 => h9) rfl dX0_serves_29 ?_
                refine lv_iload_n hx hb dX0_serves_32 rfl (lv_at hl 0 rfl) ?_
                refine va_aldq hx hb hK hP 5 4 rfl rfl (vp_in_nI (by omega) (by omega)) dX0_serves_33 ?_
                refine lv_topv (y := .ref t1) (by rw [nI_clamp (by omega)]; rw [hh1]; rfl) ?_
                refine va_getN (D := D) (ci := 3) (v := .int (nI (apN f 1))) (C := RX3) (T := TX3) (N := 4) hx hb hts in_X3 hown hK hP 10 rfl rfl 1 (by decide) (Cx.nF hC (List.mem_of_getElem? (i := 2) rfl)) (fun _ h9 => h9) rfl dX0_serves_34 ?_
                refine lv_aload_n hx hb dX0_serves_37 rfl (lv_at hl 3 rfl) ?_
                refine va_get (D := D) (ci := 0) (v := .ref st) (C := RX0) (T := TX0) (N := 3) hx hb hts in_X0 hown hK hP 0 rfl rfl 0 (by decide) (hts _ q284) (fun _ h9 => h9) rfl dX0_serves_38 ?_
                refine va_getN (D := D) (ci := 1) (v := .ref sao) (C := RX1) (T := TX1) (N := 10) hx hb hts in_X1 hown hK hP 1 rfl rfl 2 (by decide) (Cx.nF hC (List.mem_of_getElem? (i := 7) rfl)) (fun _ h9 => h9) rfl dX0_serves_41 ?_
                refine lv_iload_n hx hb dX0_serves_44 rfl (lv_at hl 1 rfl) ?_
                refine va_aldq hx hb hK hP 5 4 rfl rfl (vp_in_nI (by omega) (by omega)) dX0_serves_45 ?_
                refine lv_topv (y := .ref t0) (by rw [nI_clamp (by omega)]; rw [hh0]; rfl) ?_
                refine va_getN (D := D) (ci := 3) (v := .int (nI (apN f 0))) (C := RX3) (T := TX3) (N := 4) hx hb hts in_X3 hown hK hP 7 rfl rfl 1 (by decide) (Cx.nF hC (List.mem_of_getElem? (i := 2) rfl)) (fun _ h9 => h9) rfl dX0_serves_46 ?_
                refine lv_icmp_le (tgt := 56) hx hb dX0_serves_49 (by decide) (fun c_17 => ?_) (fun c_17 => ?_)
                · have c_17 := (nI_leI (by omega) (by omega)).1 c_17
                  refine lv_iconst (v := nI (0)) hx hb dX0_serves_56 (by decide) ?_
                  refine lv_istore (lv' := [(4, .int (nI (0))), (3, .int (nI (1))), (2, .int (nI (0))), (0, .ref xx), (1, .int (nI (kf)))]) hx hb dX0_serves_57 hl (by decide) rfl (fun ls hl => ?_)
                  refine lv_aload_n hx hb dX0_serves_59 rfl (lv_at hl 3 rfl) ?_
                  refine va_get (D := D) (ci := 0) (v := .ref st) (C := RX0) (T := TX0) (N := 3) hx hb hts in_X0 hown hK hP 0 rfl rfl 0 (by decide) (hts _ q284) (fun _ h9 => h9) rfl dX0_serves_60 ?_
                  refine va_getN (D := D) (ci := 1) (v := .ref sao) (C := RX1) (T := TX1) (N := 10) hx hb hts in_X1 hown hK hP 1 rfl rfl 2 (by decide) (Cx.nF hC (List.mem_of_getElem? (i := 7) rfl)) (fun _ h9 => h9) rfl dX0_serves_63 ?_
                  refine lv_iload_n hx hb dX0_serves_66 rfl (lv_at hl 1 rfl) ?_
                  refine va_aldq hx hb hK hP 5 4 rfl rfl (vp_in_nI (by omega) (by omega)) dX0_serves_67 ?_
                  refine lv_topv (y := .ref t1) (by rw [nI_clamp (by omega)]; rw [hh1]; rfl) ?_
                  refine lv_iload_n hx hb dX0_serves_68 rfl (lv_at hl 4 rfl) ?_
                  refine z_cVi (As := [.int (nI (kf))]) (rest := []) ⟨hx, hb, hml, hown, hts⟩ (mX3_canServe l D dA ad H.size t1 (nI (rcN f 1)) (apN f 1) (acN f 1) c1 kf (by omega) (by omega) (by omega)) (cwV 1 hts (lw_V q927 q928 q929 q60 q930) rfl rfl rfl (by decide +kernel) ⟨Nat.le_of_ble_eq_true rfl, Nat.le_of_ble_eq_true rfl⟩) hC hS (fun _ h => hA _ (Nat.le_trans hS.1 h)) (hP.sub (ws' := [(t1, .inr (3, [.int (nI (rcN f 1)), .int (nI (apN f 1)), .ref c1, .int (nI (acN f 1))]))]) [10] rfl) (va_recv hK hP (ci := 3) (q0 := 10) rfl rfl) rfl rfl hl.1 (Nat.le_of_ble_eq_true rfl) dX0_serves_69 ⟨Nat.le_of_ble_eq_true rfl, Nat.le_of_ble_eq_true rfl⟩ (fun r_18 H locs hQ hF hS => ?_)
                  have hP := va_P.ro hF hP
                  obtain rfl : bI ((acN f 1) = 0 ∧ kf ≤ (apN f 1)) = r_18 := hQ.symm
                  refine lv_if_eq (tgt := 84) hx hb dX0_serves_72 (by decide) (fun c_19 => ?_) (fun c_19 => ?_)
                  · have c_19 := bI_0.1 c_19
                    refine lv_iload_n hx hb dX0_serves_84 rfl (lv_at hl 2 rfl) ?_
                    refine lv_istore_n (lv' := [(2, .int (nI (0))), (4, .int (nI (0))), (3, .int (nI (1))), (0, .ref xx), (1, .int (nI (kf)))]) hx hb dX0_serves_85 rfl hl (by decide) rfl (fun ls hl => ?_)
                    refine lv_iinc (v := nI (2)) (lv' := [(3, .int (nI (2))), (2, .int (nI (0))), (4, .int (nI (0))), (0, .ref xx), (1, .int (nI (kf)))]) hx hb dX0_serves_86 hl (k := 2) rfl (by decide) (by decide) rfl (fun ls hl => ?_)
                    refine lv_goto (tgt := 16) hx hb dX0_serves_89 (by decide) ?_
                    refine lv_iload_n hx hb dX0_serves_16 rfl (lv_at hl 0 rfl) ?_
                    refine lv_iconst (v := nI (2)) hx hb dX0_serves_17 (by decide) ?_
                    refine lv_icmp_ge (tgt := 92) hx hb dX0_serves_18 (by decide) (fun c_20 => ?_) (fun c_20 => ?_)
                    · refine lv_iload_n hx hb dX0_serves_92 rfl (lv_at hl 1 rfl) ?_
                      exact z_iret (v := nI (0)) hx hb hr hS (by unfold aServes; rw [if_pos c_2, if_pos ((aCan_iff hB (by omega) (by omega)).2 c_6), if_neg (fun q => c_19 ((aCan_iff hB (by omega) (by omega)).1 q))] <;> rfl) (by omega) (by omega) dX0_serves_93
                    · exact absurd c_20 (by decide)
                  · have c_19 := bI_1.1 c_19
                    refine lv_iload hx hb dX0_serves_75 (lv_at hl 0 rfl) ?_
                    refine lv_if_eq (tgt := 84) hx hb dX0_serves_77 (by decide) (fun c_21 => ?_) (fun c_21 => ?_)
                    · refine lv_iload_n hx hb dX0_serves_84 rfl (lv_at hl 2 rfl) ?_
                      refine lv_istore_n (lv' := [(2, .int (nI (0))), (4, .int (nI (0))), (3, .int (nI (1))), (0, .ref xx), (1, .int (nI (kf)))]) hx hb dX0_serves_85 rfl hl (by decide) rfl (fun ls hl => ?_)
                      refine lv_iinc (v := nI (2)) (lv' := [(3, .int (nI (2))), (2, .int (nI (0))), (4, .int (nI (0))), (0, .ref xx), (1, .int (nI (kf)))]) hx hb dX0_serves_86 hl (k := 2) rfl (by decide) (by decide) rfl (fun ls hl => ?_)
                      refine lv_goto (tgt := 16) hx hb dX0_serves_89 (by decide) ?_
                      refine lv_iload_n hx hb dX0_serves_16 rfl (lv_at hl 0 rfl) ?_
                      refine lv_iconst (v := nI (2)) hx hb dX0_serves_17 (by decide) ?_
                      refine lv_icmp_ge (tgt := 92) hx hb dX0_serves_18 (by decide) (fun c_22 => ?_) (fun c_22 => ?_)
                      · refine lv_iload_n hx hb dX0_serves_92 rfl (lv_at hl 1 rfl) ?_
                        exact z_iret (v := nI (0)) hx hb hr hS (by unfold aServes; rw [if_pos c_2, if_pos ((aCan_iff hB (by omega) (by omega)).2 c_6), if_pos ((aCan_iff hB (by omega) (by omega)).2 c_19), qb1, qb0, if_pos (nI_le c_17 (by omega))] <;> rfl) (by omega) (by omega) dX0_serves_93
                      · exact absurd c_22 (by decide)
                    · exact absurd c_21 (by decide)
                · have c_17 := mt (nI_leI (by omega) (by omega)).2 c_17
                  refine lv_iconst (v := nI (1)) hx hb dX0_serves_52 (by decide) ?_
                  refine lv_goto (tgt := 57) hx hb dX0_serves_53 (by decide) ?_
                  refine lv_istore (lv' := [(4, .int (nI (1))), (3, .int (nI (1))), (2, .int (nI (0))), (0, .ref xx), (1, .int (nI (kf)))]) hx hb dX0_serves_57 hl (by decide) rfl (fun ls hl => ?_)
                  refine lv_aload_n hx hb dX0_serves_59 rfl (lv_at hl 3 rfl) ?_
                  refine va_get (D := D) (ci := 0) (v := .ref st) (C := RX0) (T := TX0) (N := 3) hx hb hts in_X0 hown hK hP 0 rfl rfl 0 (by decide) (hts _ q284) (fun _ h9 => h9) rfl dX0_serves_60 ?_
                  refine va_getN (D := D) (ci := 1) (v := .ref sao) (C := RX1) (T := TX1) (N := 10) hx hb hts in_X1 hown hK hP 1 rfl rfl 2 (by decide) (Cx.nF hC (List.mem_of_getElem? (i := 7) rfl)) (fun _ h9 => h9) rfl dX0_serves_63 ?_
                  refine lv_iload_n hx hb dX0_serves_66 rfl (lv_at hl 1 rfl) ?_
                  refine va_aldq hx hb hK hP 5 4 rfl rfl (vp_in_nI (by omega) (by omega)) dX0_serves_67 ?_
                  refine lv_topv (y := .ref t1) (by rw [nI_clamp (by omega)]; rw [hh1]; rfl) ?_
                  refine lv_iload_n hx hb dX0_serves_68 rfl (lv_at hl 4 rfl) ?_
                  refine z_cVi (As := [.int (nI (kf))]) (rest := []) ⟨hx, hb, hml, hown, hts⟩ (mX3_canServe l D dA ad H.size t1 (nI (rcN f 1)) (apN f 1) (acN f 1) c1 kf (by omega) (by omega) (by omega)) (cwV 1 hts (lw_V q927 q928 q929 q60 q930) rfl rfl rfl (by decide +kernel) ⟨Nat.le_of_ble_eq_true rfl, Nat.le_of_ble_eq_true rfl⟩) hC hS (fun _ h => hA _ (Nat.le_trans hS.1 h)) (hP.sub (ws' := [(t1, .inr (3, [.int (nI (rcN f 1)), .int (nI (apN f 1)), .ref c1, .int (nI (acN f 1))]))]) [10] rfl) (va_recv hK hP (ci := 3) (q0 := 10) rfl rfl) rfl rfl hl.1 (Nat.le_of_ble_eq_true rfl) dX0_serves_69 ⟨Nat.le_of_ble_eq_true rfl, Nat.le_of_ble_eq_true rfl⟩ (fun r_23 H locs hQ hF hS => ?_)
                  have hP := va_P.ro hF hP
                  obtain rfl : bI ((acN f 1) = 0 ∧ kf ≤ (apN f 1)) = r_23 := hQ.symm
                  refine lv_if_eq (tgt := 84) hx hb dX0_serves_72 (by decide) (fun c_24 => ?_) (fun c_24 => ?_)
                  · have c_24 := bI_0.1 c_24
                    refine lv_iload_n hx hb dX0_serves_84 rfl (lv_at hl 2 rfl) ?_
                    refine lv_istore_n (lv' := [(2, .int (nI (0))), (4, .int (nI (1))), (3, .int (nI (1))), (0, .ref xx), (1, .int (nI (kf)))]) hx hb dX0_serves_85 rfl hl (by decide) rfl (fun ls hl => ?_)
                    refine lv_iinc (v := nI (2)) (lv' := [(3, .int (nI (2))), (2, .int (nI (0))), (4, .int (nI (1))), (0, .ref xx), (1, .int (nI (kf)))]) hx hb dX0_serves_86 hl (k := 2) rfl (by decide) (by decide) rfl (fun ls hl => ?_)
                    refine lv_goto (tgt := 16) hx hb dX0_serves_89 (by decide) ?_
                    refine lv_iload_n hx hb dX0_serves_16 rfl (lv_at hl 0 rfl) ?_
                    refine lv_iconst (v := nI (2)) hx hb dX0_serves_17 (by decide) ?_
                    refine lv_icmp_ge (tgt := 92) hx hb dX0_serves_18 (by decide) (fun c_25 => ?_) (fun c_25 => ?_)
                    · refine lv_iload_n hx hb dX0_serves_92 rfl (lv_at hl 1 rfl) ?_
                      exact z_iret (v := nI (0)) hx hb hr hS (by unfold aServes; rw [if_pos c_2, if_pos ((aCan_iff hB (by omega) (by omega)).2 c_6), if_neg (fun q => c_24 ((aCan_iff hB (by omega) (by omega)).1 q))] <;> rfl) (by omega) (by omega) dX0_serves_93
                    · exact absurd c_25 (by decide)
                  · have c_24 := bI_1.1 c_24
                    refine lv_iload hx hb dX0_serves_75 (lv_at hl 0 rfl) ?_
                    refine lv_if_eq (tgt := 84) hx hb dX0_serves_77 (by decide) (fun c_26 => ?_) (fun c_26 => ?_)
                    · exact absurd c_26 (by decide)
                    · refine lv_iload_n hx hb dX0_serves_80 rfl (lv_at hl 1 rfl) ?_
                      refine lv_goto (tgt := 85) hx hb dX0_serves_81 (by decide) ?_
                      refine lv_istore_n (lv' := [(2, .int (nI (1))), (4, .int (nI (1))), (3, .int (nI (1))), (0, .ref xx), (1, .int (nI (kf)))]) hx hb dX0_serves_85 rfl hl (by decide) rfl (fun ls hl => ?_)
                      refine lv_iinc (v := nI (2)) (lv' := [(3, .int (nI (2))), (2, .int (nI (1))), (4, .int (nI (1))), (0, .ref xx), (1, .int (nI (kf)))]) hx hb dX0_serves_86 hl (k := 2) rfl (by decide) (by decide) rfl (fun ls hl => ?_)
                      refine lv_goto (tgt := 16) hx hb dX0_serves_89 (by decide) ?_
                      refine lv_iload_n hx hb dX0_serves_16 rfl (lv_at hl 0 rfl) ?_
                      refine lv_iconst (v := nI (2)) hx hb dX0_serves_17 (by decide) ?_
                      refine lv_icmp_ge (tgt := 92) hx hb dX0_serves_18 (by decide) (fun c_27 => ?_) (fun c_27 => ?_)
                      · refine lv_iload_n hx hb dX0_serves_92 rfl (lv_at hl 1 rfl) ?_
                        exact z_iret (v := nI (1)) hx hb hr hS (by unfold aServes; rw [if_pos c_2, if_pos ((aCan_iff hB (by omega) (by omega)).2 c_6), if_pos ((aCan_iff hB (by omega) (by omega)).2 c_24), qb1, qb0, if_neg (fun q => c_17 ((nI_leI (by omega) (by omega)).1 q))] <;> rfl) (by omega) (by omega) dX0_serves_93
                      · exact absurd c_27 (by decide)
      · exact absurd c_4 (by decide)
  · have c_2 := bI_0.1 c_2
    refine lv_ldc (v := (-1000001)) hx hb hown (hts _ q592) dX0_serves_8 ?_
    exact z_iret (v := (-1000001)) hx hb hr hS (by unfold aServes; rw [if_neg c_2]) (by omega) (by omega) dX0_serves_10

set_option maxHeartbeats 4000000 in
set_option maxRecDepth 100000 in
theorem mX0_fence (l : Launch) (D : va_G) (dA : Nat → ClassId) (ad : Nat → Nat) (sz : Nat) (xx : Nat) (st : Nat) (dq : Nat) (sb : Nat) (f : Nat → Int32) (M : Nat) (ky : Int32) (hB : InvB f M) : Met l yX0_fence (ws_ yX0_fence cX0_fence 3 (some .int)) ({ frames := 7, cells := 0, slots := 0, locals := 230 }) (va_Pc [.ref xx, .int ky] (zP D dA ad (fun q => sz ≤ q) sz (fun H => va_P D vwCl [(xx, .inr (0, [.ref st, .ref dq, .ref sb]))] H ∧ SR D dA (fun q => sz ≤ q) f st H))) (zQi (fun rz H => rz = aFence f ky) (fun q => sz ≤ q)) (0) (0) (fun q => sz ≤ q) := by
  refine Met.ofW (cc := cX0_fence) (maxL := 3) (ret := (some .int)) (by decide) rfl ?_
  intro p e s m args below meth c s₁ B hml hv
  obtain ⟨rfl, hsz, hC, hP⟩ := hv
  have hx := B.exec
  have hb := B.bytes
  have hr := B.returns
  have hts := atoms_spec (ws := ws_ yX0_fence cX0_fence 3 (some .int)) B.pre
  have hts : ∀ w ∈ lw_all, w.before _ s = true := fun w h => hts w (List.mem_cons_of_mem _ h)
  have hown : s.vm.findClass RX0 = some m.cls := findClass_of_methodNamed B.named
  have hlocks := B.notSynchronized
  subst hsz
  have hK := hC.K
  have hA : ∀ q : Nat, s.heap.size ≤ q → s.heap.size ≤ q := fun _ h => h
  have hS : va_S (fun q => s.heap.size ≤ q) s.heap s.heap [] := va_S.rf
  obtain ⟨hP, hP2⟩ := hP
  have hP : va_P D vwCl [(xx, .inr (0, [.ref st, .ref dq, .ref sb]))] s.heap := hP
  have hl := lv_entry ([.ref xx, .int ky]) (n := 3) (Nat.le_of_ble_eq_true rfl)
  rw [lg_entry_eq]
  generalize (lg_sl ([.ref xx, .int ky]) ++ List.replicate (3 - (lg_sl ([.ref xx, .int ky])).length) Slot.unset).toArray = ls at hl ⊢
  have hl : lv_has ls 3 [(0, .ref xx), (1, .int ky)] := hl
  obtain ⟨jo, slo, sao, seo, alo, mco, aeo, h, t0, c0, d0, e0, W0, t1, c1, d1, e1, W1, hZS, hP2, hh0, hh1, hW0, hW1, hgp0, hgp1⟩ := hP2
  have hI := hB.a
  have hn9 := hI.2.1
  obtain ⟨qa0, qb0, qc0, qd0⟩ := InvA_ap hI (b := 0) (by omega)
  obtain ⟨qa1, qb1, qc1, qd1⟩ := InvA_ap hI (b := 1) (by omega)
  obtain ⟨hac0, ha0⟩ := hB.ac (b := 0) (by omega)
  obtain ⟨hac1, ha1⟩ := hB.ac (b := 1) (by omega)
  have hP := hP.app hZS.1
  have hP : va_P D vwCl [(xx, .inr (0, [.ref st, .ref dq, .ref sb])), (st, .inr (1, [.ref jo, .ref slo, .ref sao, .ref seo, .int (f 1), .int (f 2), .int (f 3), .int (f 4), .int (f 5), .int (f 6)])), (jo, .inr (2, [.ref alo])), (alo, .inr (9, [.int mco, .ref aeo, .int (nI (rN f))])), (slo, .inl (dA 0, 3, .inl (slF f))), (sao, .inl (dA 4, 2, .inr (.inr (.inr (.inr h))))), (seo, .inl (dA 0, 2, .inl (seF f))), (t0, .inr (3, [.int (nI (rcN f 0)), .int (nI (apN f 0)), .ref c0, .int (nI (acN f 0))])), (c0, .inr (10, [.ref d0, .int (nI (uOf W0)), .int e0])), (d0, .inl (dA 1, 2, .inr (.inl (lwd W0)))), (t1, .inr (3, [.int (nI (rcN f 1)), .int (nI (apN f 1)), .ref c1, .int (nI (acN f 1))])), (c1, .inr (10, [.ref d1, .int (nI (uOf W1)), .int e1])), (d1, .inl (dA 1, 2, .inr (.inl (lwd W1))))] s.heap := hP
  have hl9 := lcC_le f ky (rN f)
  refine lv_iload_n hx hb dX0_fence_0 rfl (lv_at hl 1 rfl) ?_
  refine z_cSi (As := [.int ky]) (rest := []) ⟨hx, hb, hml, hown, hts⟩ (mX0_isKey l D dA ad s.heap.size ky) (va_cwS 1 hts (lw_S q549 q550 q54 q551) rfl rfl rfl (by decide +kernel) ⟨Nat.le_of_ble_eq_true rfl, Nat.le_of_ble_eq_true rfl⟩) hC hS (fun _ h => hA _ (Nat.le_trans hS.1 h)) trivial rfl rfl hl.1 (Nat.le_of_ble_eq_true rfl) dX0_fence_1 ⟨Nat.le_of_ble_eq_true rfl, Nat.le_of_ble_eq_true rfl⟩ (fun r_1 H locs hQ hF hS => ?_)
  have hP := va_P.ro hF hP
  obtain rfl : bI (nI 0 ≤ ky ∧ ky ≤ nI 23) = r_1 := hQ.symm
  refine lv_if_ne (tgt := 10) hx hb dX0_fence_4 (by decide) (fun c_2 => ?_) (fun c_2 => ?_)
  · have c_2 := bI_1.1 c_2
    refine lv_aload_n hx hb dX0_fence_10 rfl (lv_at hl 0 rfl) ?_
    refine va_get (D := D) (ci := 0) (v := .ref st) (C := RX0) (T := TX0) (N := 3) hx hb hts in_X0 hown hK hP 0 rfl rfl 0 (by decide) (hts _ q284) (fun _ h9 => h9) rfl dX0_fence_11 ?_
    refine lv_iload_n hx hb dX0_fence_14 rfl (lv_at hl 1 rfl) ?_
    refine lv_aload_n hx hb dX0_fence_15 rfl (lv_at hl 0 rfl) ?_
    refine va_get (D := D) (ci := 0) (v := .ref st) (C := RX0) (T := TX0) (N := 3) hx hb hts in_X0 hown hK hP 0 rfl rfl 0 (by decide) (hts _ q284) (fun _ h9 => h9) rfl dX0_fence_16 ?_
    refine va_getN (D := D) (ci := 1) (v := .ref jo) (C := RX1) (T := TX1) (N := 10) hx hb hts in_X1 hown hK hP 1 rfl rfl 0 (by decide) (Cx.nF hC (List.mem_of_getElem? (i := 5) rfl)) (fun _ h9 => h9) rfl dX0_fence_19 ?_
    refine z_cVi (As := []) (rest := [.int ky, .ref st]) ⟨hx, hb, hml, hown, hts⟩ (mX2_size l D dA ad H.size jo alo mco aeo (rN f)) (cwV 0 hts (lw_V q926 q637 q638 q56 q639) rfl rfl rfl (by decide +kernel) ⟨Nat.le_of_ble_eq_true rfl, Nat.le_of_ble_eq_true rfl⟩) hC hS (fun _ h => hA _ (Nat.le_trans hS.1 h)) (hP.sub (ws' := [(jo, .inr (2, [.ref alo])), (alo, .inr (9, [.int mco, .ref aeo, .int (nI (rN f))]))]) [2, 3] rfl) (va_recv hK hP (ci := 2) (q0 := 2) rfl rfl) rfl rfl hl.1 (Nat.le_of_ble_eq_true rfl) dX0_fence_22 ⟨Nat.le_of_ble_eq_true rfl, Nat.le_of_ble_eq_true rfl⟩ (fun r_3 H locs hQ hF hS => ?_)
    have hP := va_P.ro hF hP
    obtain rfl : nI ((rN f)) = r_3 := hQ.symm
    refine z_cVi (As := [.int ky, .int (nI ((rN f)))]) (rest := []) ⟨hx, hb, hml, hown, hts⟩ (mX1_lastCommit l D dA ad H.size st jo slo sao seo (f 1) (f 2) (f 3) (f 4) (f 5) (f 6) alo mco aeo (rN f) f ky (rN f) (by omega)) (cwV 2 hts (lw_V q967 q936 q937 q55 q938) rfl rfl rfl (by decide +kernel) ⟨Nat.le_of_ble_eq_true rfl, Nat.le_of_ble_eq_true rfl⟩) hC hS (fun _ h => hA _ (Nat.le_trans hS.1 h)) ⟨(hP.sub (ws' := [(st, .inr (1, [.ref jo, .ref slo, .ref sao, .ref seo, .int (f 1), .int (f 2), .int (f 3), .int (f 4), .int (f 5), .int (f 6)])), (jo, .inr (2, [.ref alo])), (alo, .inr (9, [.int mco, .ref aeo, .int (nI (rN f))]))]) [1, 2, 3] rfl), (hP2.kept hS).ro⟩ (va_recv hK hP (ci := 1) (q0 := 1) rfl rfl) rfl rfl hl.1 (Nat.le_of_ble_eq_true rfl) dX0_fence_25 ⟨Nat.le_of_ble_eq_true rfl, Nat.le_of_ble_eq_true rfl⟩ (fun r_4 H locs hQ hF hS => ?_)
    have hP := va_P.ro hF hP
    obtain rfl : nI (lcC f ky (rN f)) = r_4 := hQ.symm
    refine lv_istore_n (lv' := [(2, .int (nI (lcC f ky (rN f)))), (0, .ref xx), (1, .int ky)]) hx hb dX0_fence_28 rfl hl (by decide) rfl (fun ls hl => ?_)
    refine lv_iload_n hx hb dX0_fence_29 rfl (lv_at hl 0 rfl) ?_
    refine lv_if_ne (tgt := 38) hx hb dX0_fence_30 (by decide) (fun c_5 => ?_) (fun c_5 => ?_)
    · have c_5 := mt (nI_eq (by omega) (by omega)).2 (show ¬ nI _ = nI 0 from c_5)
      refine lv_iload_n hx hb dX0_fence_38 rfl (lv_at hl 0 rfl) ?_
      exact z_iret (v := nI (lcC f ky (rN f))) hx hb hr hS (by unfold aFence; rw [if_pos c_2, ← lcC_eq hB ky (Nat.le_refl _), if_neg c_5] <;> rfl) (by omega) (by omega) dX0_fence_39
    · have c_5 := (nI_eq (by omega) (by omega)).1 (show nI _ = nI 0 from c_5)
      refine lv_ldc (v := (-1000004)) hx hb hown (hts _ q962) dX0_fence_33 ?_
      refine lv_goto (tgt := 39) hx hb dX0_fence_35 (by decide) ?_
      exact z_iret (v := (-1000004)) hx hb hr hS (by unfold aFence; rw [if_pos c_2, ← lcC_eq hB ky (Nat.le_refl _), if_pos c_5] <;> rfl) (by omega) (by omega) dX0_fence_39
  · have c_2 := bI_0.1 c_2
    refine lv_ldc (v := (-1000001)) hx hb hown (hts _ q592) dX0_fence_7 ?_
    exact z_iret (v := (-1000001)) hx hb hr hS (by unfold aFence; rw [if_neg c_2]) (by omega) (by omega) dX0_fence_9

set_option maxHeartbeats 4000000 in
set_option maxRecDepth 100000 in
theorem mX0_recordOf (l : Launch) (D : va_G) (dA : Nat → ClassId) (ad : Nat → Nat) (sz : Nat) (xx : Nat) (st : Nat) (dq : Nat) (sb : Nat) (f : Nat → Int32) (M : Nat) (r : Int32) (wh : Int32) (hB : InvB f M) : Met l yX0_recordOf (ws_ yX0_recordOf cX0_recordOf 3 (some .int)) ({ frames := 5, cells := 0, slots := 0, locals := 130 }) (va_Pc [.ref xx, .int r, .int wh] (zP D dA ad (fun q => sz ≤ q) sz (fun H => va_P D vwCl [(xx, .inr (0, [.ref st, .ref dq, .ref sb]))] H ∧ SR D dA (fun q => sz ≤ q) f st H))) (zQi (fun rz H => rz = aRecordOf f r wh) (fun q => sz ≤ q)) (0) (0) (fun q => sz ≤ q) := by
  refine Met.ofW (cc := cX0_recordOf) (maxL := 3) (ret := (some .int)) (by decide) rfl ?_
  intro p e s m args below meth c s₁ B hml hv
  obtain ⟨rfl, hsz, hC, hP⟩ := hv
  have hx := B.exec
  have hb := B.bytes
  have hr := B.returns
  have hts := atoms_spec (ws := ws_ yX0_recordOf cX0_recordOf 3 (some .int)) B.pre
  have hts : ∀ w ∈ lw_all, w.before _ s = true := fun w h => hts w (List.mem_cons_of_mem _ h)
  have hown : s.vm.findClass RX0 = some m.cls := findClass_of_methodNamed B.named
  have hlocks := B.notSynchronized
  subst hsz
  have hK := hC.K
  have hA : ∀ q : Nat, s.heap.size ≤ q → s.heap.size ≤ q := fun _ h => h
  have hS : va_S (fun q => s.heap.size ≤ q) s.heap s.heap [] := va_S.rf
  obtain ⟨hP, hP2⟩ := hP
  have hP : va_P D vwCl [(xx, .inr (0, [.ref st, .ref dq, .ref sb]))] s.heap := hP
  have hl := lv_entry ([.ref xx, .int r, .int wh]) (n := 3) (Nat.le_of_ble_eq_true rfl)
  rw [lg_entry_eq]
  generalize (lg_sl ([.ref xx, .int r, .int wh]) ++ List.replicate (3 - (lg_sl ([.ref xx, .int r, .int wh])).length) Slot.unset).toArray = ls at hl ⊢
  have hl : lv_has ls 3 [(0, .ref xx), (1, .int r), (2, .int wh)] := hl
  obtain ⟨jo, slo, sao, seo, alo, mco, aeo, h, t0, c0, d0, e0, W0, t1, c1, d1, e1, W1, hZS, hP2, hh0, hh1, hW0, hW1, hgp0, hgp1⟩ := hP2
  have hI := hB.a
  have hn9 := hI.2.1
  obtain ⟨qa0, qb0, qc0, qd0⟩ := InvA_ap hI (b := 0) (by omega)
  obtain ⟨qa1, qb1, qc1, qd1⟩ := InvA_ap hI (b := 1) (by omega)
  obtain ⟨hac0, ha0⟩ := hB.ac (b := 0) (by omega)
  obtain ⟨hac1, ha1⟩ := hB.ac (b := 1) (by omega)
  have hP := hP.app hZS.1
  have hP : va_P D vwCl [(xx, .inr (0, [.ref st, .ref dq, .ref sb])), (st, .inr (1, [.ref jo, .ref slo, .ref sao, .ref seo, .int (f 1), .int (f 2), .int (f 3), .int (f 4), .int (f 5), .int (f 6)])), (jo, .inr (2, [.ref alo])), (alo, .inr (9, [.int mco, .ref aeo, .int (nI (rN f))])), (slo, .inl (dA 0, 3, .inl (slF f))), (sao, .inl (dA 4, 2, .inr (.inr (.inr (.inr h))))), (seo, .inl (dA 0, 2, .inl (seF f))), (t0, .inr (3, [.int (nI (rcN f 0)), .int (nI (apN f 0)), .ref c0, .int (nI (acN f 0))])), (c0, .inr (10, [.ref d0, .int (nI (uOf W0)), .int e0])), (d0, .inl (dA 1, 2, .inr (.inl (lwd W0)))), (t1, .inr (3, [.int (nI (rcN f 1)), .int (nI (apN f 1)), .ref c1, .int (nI (acN f 1))])), (c1, .inr (10, [.ref d1, .int (nI (uOf W1)), .int e1])), (d1, .inl (dA 1, 2, .inr (.inl (lwd W1))))] s.heap := hP
  refine lv_iload_n hx hb dX0_recordOf_0 rfl (lv_at hl 1 rfl) ?_
  refine lv_iconst (v := nI (1)) hx hb dX0_recordOf_1 (by decide) ?_
  refine lv_icmp_lt (tgt := 17) hx hb dX0_recordOf_2 (by decide) (fun c_1 => ?_) (fun c_1 => ?_)
  · refine lv_ldc (v := (-1000001)) hx hb hown (hts _ q592) dX0_recordOf_17 ?_
    exact z_iret (v := (-1000001)) hx hb hr hS (by unfold aRecordOf; rw [if_pos c_1]) (by omega) (by omega) dX0_recordOf_19
  · refine lv_iload_n hx hb dX0_recordOf_5 rfl (lv_at hl 2 rfl) ?_
    refine lv_i2l (v := (wh).toInt64) hx hb dX0_recordOf_6 (rfl) ?_
    refine lv_lconst (v := lN (0)) hx hb dX0_recordOf_7 (by decide) ?_
    refine lv_ldc2 (v := lN (4)) hx hb hown (hts _ q972) dX0_recordOf_8 ?_
    refine z_cSi (As := [.long ((wh).toInt64), .long (lN (0)), .long (lN (4))]) (rest := []) ⟨hx, hb, hml, hown, hts⟩ (mX0_isBetween l D dA ad s.heap.size ((wh).toInt64) (lN (0)) (lN (4))) (va_cwS 3 hts (lw_S q457 q458 q54 q459) rfl rfl rfl (by decide +kernel) ⟨Nat.le_of_ble_eq_true rfl, Nat.le_of_ble_eq_true rfl⟩) hC hS (fun _ h => hA _ (Nat.le_trans hS.1 h)) trivial rfl rfl hl.1 (Nat.le_of_ble_eq_true rfl) dX0_recordOf_11 ⟨Nat.le_of_ble_eq_true rfl, Nat.le_of_ble_eq_true rfl⟩ (fun r_2 H locs hQ hF hS => ?_)
    have hP := va_P.ro hF hP
    obtain rfl : bI ((lN (0)) ≤ ((wh).toInt64) ∧ ((wh).toInt64) ≤ (lN (4))) = r_2 := hQ.symm
    refine lv_tope (y := bI (nI 0 ≤ wh ∧ wh ≤ nI 4)) (btw_ok (by decide) (by decide)) ?_
    refine lv_if_ne (tgt := 20) hx hb dX0_recordOf_14 (by decide) (fun c_3 => ?_) (fun c_3 => ?_)
    · have c_3 := bI_1.1 c_3
      refine lv_iload_n hx hb dX0_recordOf_20 rfl (lv_at hl 1 rfl) ?_
      refine lv_aload_n hx hb dX0_recordOf_21 rfl (lv_at hl 0 rfl) ?_
      refine va_get (D := D) (ci := 0) (v := .ref st) (C := RX0) (T := TX0) (N := 3) hx hb hts in_X0 hown hK hP 0 rfl rfl 0 (by decide) (hts _ q284) (fun _ h9 => h9) rfl dX0_recordOf_22 ?_
      refine va_getN (D := D) (ci := 1) (v := .ref jo) (C := RX1) (T := TX1) (N := 10) hx hb hts in_X1 hown hK hP 1 rfl rfl 0 (by decide) (Cx.nF hC (List.mem_of_getElem? (i := 5) rfl)) (fun _ h9 => h9) rfl dX0_recordOf_25 ?_
      refine z_cVi (As := []) (rest := [.int r]) ⟨hx, hb, hml, hown, hts⟩ (mX2_size l D dA ad H.size jo alo mco aeo (rN f)) (cwV 0 hts (lw_V q926 q637 q638 q56 q639) rfl rfl rfl (by decide +kernel) ⟨Nat.le_of_ble_eq_true rfl, Nat.le_of_ble_eq_true rfl⟩) hC hS (fun _ h => hA _ (Nat.le_trans hS.1 h)) (hP.sub (ws' := [(jo, .inr (2, [.ref alo])), (alo, .inr (9, [.int mco, .ref aeo, .int (nI (rN f))]))]) [2, 3] rfl) (va_recv hK hP (ci := 2) (q0 := 2) rfl rfl) rfl rfl hl.1 (Nat.le_of_ble_eq_true rfl) dX0_recordOf_28 ⟨Nat.le_of_ble_eq_true rfl, Nat.le_of_ble_eq_true rfl⟩ (fun r_4 H locs hQ hF hS => ?_)
      have hP := va_P.ro hF hP
      obtain rfl : nI ((rN f)) = r_4 := hQ.symm
      refine lv_icmp_le (tgt := 39) hx hb dX0_recordOf_31 (by decide) (fun c_5 => ?_) (fun c_5 => ?_)
      · obtain ⟨kr, hkr, rfl⟩ := zr_of (k := r) (N := rN f) ⟨Int32.le_trans (nI_le (by omega) (by omega)) (Int32.not_lt.1 c_1), c_5⟩ (by omega)
        have hr1 : 1 ≤ kr := (nI_leI (by omega) (by omega)).1 (Int32.not_lt.1 c_1)
        obtain ⟨kw, hkw, rfl⟩ := zr_of (k := wh) (N := 4) c_3 (by decide)
        refine lv_aload_n hx hb dX0_recordOf_39 rfl (lv_at hl 0 rfl) ?_
        refine va_get (D := D) (ci := 0) (v := .ref st) (C := RX0) (T := TX0) (N := 3) hx hb hts in_X0 hown hK hP 0 rfl rfl 0 (by decide) (hts _ q284) (fun _ h9 => h9) rfl dX0_recordOf_40 ?_
        refine va_getN (D := D) (ci := 1) (v := .ref jo) (C := RX1) (T := TX1) (N := 10) hx hb hts in_X1 hown hK hP 1 rfl rfl 0 (by decide) (Cx.nF hC (List.mem_of_getElem? (i := 5) rfl)) (fun _ h9 => h9) rfl dX0_recordOf_43 ?_
        refine lv_iload_n hx hb dX0_recordOf_46 rfl (lv_at hl 1 rfl) ?_
        obtain ⟨y9, cap9, g9, hc9, hd9, hE9, hy9, hN9, hV9⟩ := (hP2.kept hS).ro.at (r := kr) (by omega) (by omega)
        have hP := (hP.app (va_P1 hE9)).app (va_P1 hN9)
        have hP : va_P D vwCl [(xx, .inr (0, [.ref st, .ref dq, .ref sb])), (st, .inr (1, [.ref jo, .ref slo, .ref sao, .ref seo, .int (f 1), .int (f 2), .int (f 3), .int (f 4), .int (f 5), .int (f 6)])), (jo, .inr (2, [.ref alo])), (alo, .inr (9, [.int mco, .ref aeo, .int (nI (rN f))])), (slo, .inl (dA 0, 3, .inl (slF f))), (sao, .inl (dA 4, 2, .inr (.inr (.inr (.inr h))))), (seo, .inl (dA 0, 2, .inl (seF f))), (t0, .inr (3, [.int (nI (rcN f 0)), .int (nI (apN f 0)), .ref c0, .int (nI (acN f 0))])), (c0, .inr (10, [.ref d0, .int (nI (uOf W0)), .int e0])), (d0, .inl (dA 1, 2, .inr (.inl (lwd W0)))), (t1, .inr (3, [.int (nI (rcN f 1)), .int (nI (apN f 1)), .ref c1, .int (nI (acN f 1))])), (c1, .inr (10, [.ref d1, .int (nI (uOf W1)), .int e1])), (d1, .inl (dA 1, 2, .inr (.inl (lwd W1)))), (aeo, .inl (dA 3, cap9, .inr (.inr (.inr (.inr g9))))), (y9, .inr (6, [.int (rcf f kr 0), .int (rcf f kr 1), .int (nfF f kr 2), .int (nfF f kr 3), .int (rcf f kr 4)]))] H := hP
        refine z_cVr (As := [.int (nI (kr))]) (rest := []) ⟨hx, hb, hml, hown, hts⟩ (mX2_at l D dA ad H.size jo alo mco aeo (rN f) cap9 g9 kr y9 (by omega) (by omega) (hc9) (by omega) (hy9)) (cwV 1 hts (lw_V q973 q732 q733 q56 q734) rfl rfl rfl (by decide +kernel) ⟨Nat.le_of_ble_eq_true rfl, Nat.le_of_ble_eq_true rfl⟩) hC hS (fun _ h => hA _ (Nat.le_trans hS.1 h)) ⟨(hP.sub (ws' := [(jo, .inr (2, [.ref alo])), (alo, .inr (9, [.int mco, .ref aeo, .int (nI (rN f))])), (aeo, .inl (dA 3, cap9, .inr (.inr (.inr (.inr g9)))))]) [2, 3, 13] rfl), hV9⟩ (va_recv hK hP (ci := 2) (q0 := 2) rfl rfl) rfl rfl hl.1 (Nat.le_of_ble_eq_true rfl) dX0_recordOf_47 ⟨Nat.le_of_ble_eq_true rfl, Nat.le_of_ble_eq_true rfl⟩ (fun r_6 H locs hQ hF hS => ?_)
        have hP := va_P.ro hF hP
        obtain rfl : y9 = r_6 := hQ.symm
        refine va_castE hx hb hown (hts _ q974) (va_recv hK hP (ci := 6) (q0 := 14) rfl rfl) dX0_recordOf_50 ?_
        refine lv_iload_n hx hb dX0_recordOf_53 rfl (lv_at hl 2 rfl) ?_
        refine z_cVi (As := [.int (nI (kw))]) (rest := []) ⟨hx, hb, hml, hown, hts⟩ (mX6_told l D dA ad H.size y9 (rcf f kr 0) (rcf f kr 1) (nfF f kr 2) (nfF f kr 3) (rcf f kr 4) kw (by omega)) (cwV 1 hts (lw_V q975 q976 q977 q79 q978) rfl rfl rfl (by decide +kernel) ⟨Nat.le_of_ble_eq_true rfl, Nat.le_of_ble_eq_true rfl⟩) hC hS (fun _ h => hA _ (Nat.le_trans hS.1 h)) (hP.sub (ws' := [(y9, .inr (6, [.int (rcf f kr 0), .int (rcf f kr 1), .int (nfF f kr 2), .int (nfF f kr 3), .int (rcf f kr 4)]))]) [14] rfl) (va_recv hK hP (ci := 6) (q0 := 14) rfl rfl) rfl rfl hl.1 (Nat.le_of_ble_eq_true rfl) dX0_recordOf_54 ⟨Nat.le_of_ble_eq_true rfl, Nat.le_of_ble_eq_true rfl⟩ (fun r_7 H locs hQ hF hS => ?_)
        have hP := va_P.ro hF hP
        obtain rfl : tld (rcf f kr 0) (rcf f kr 1) (nfF f kr 2) (nfF f kr 3) (rcf f kr 4) kw = r_7 := hQ.symm
        refine z_cSi (As := [.int (tld (rcf f kr 0) (rcf f kr 1) (nfF f kr 2) (nfF f kr 3) (rcf f kr 4) kw)]) (rest := []) ⟨hx, hb, hml, hown, hts⟩ (mX0_orNotFound l D dA ad H.size (tld (rcf f kr 0) (rcf f kr 1) (nfF f kr 2) (nfF f kr 3) (rcf f kr 4) kw)) (va_cwS 1 hts (lw_S q979 q980 q54 q981) rfl rfl rfl (by decide +kernel) ⟨Nat.le_of_ble_eq_true rfl, Nat.le_of_ble_eq_true rfl⟩) hC hS (fun _ h => hA _ (Nat.le_trans hS.1 h)) trivial rfl rfl hl.1 (Nat.le_of_ble_eq_true rfl) dX0_recordOf_57 ⟨Nat.le_of_ble_eq_true rfl, Nat.le_of_ble_eq_true rfl⟩ (fun r_8 H locs hQ hF hS => ?_)
        have hP := va_P.ro hF hP
        obtain rfl : oNF (tld (rcf f kr 0) (rcf f kr 1) (nfF f kr 2) (nfF f kr 3) (rcf f kr 4) kw) = r_8 := hQ.symm
        exact z_iret (v := oNF (tld (rcf f kr 0) (rcf f kr 1) (nfF f kr 2) (nfF f kr 3) (rcf f kr 4) kw)) hx hb hr hS (by unfold aRecordOf; rw [if_neg c_1, if_pos c_3, hI.1, if_pos c_5, nI_clamp (by omega), nI_clamp (by omega)]; exact rec_told hB (by omega) (by omega) hkw) (by omega) (by omega) dX0_recordOf_60
      · refine lv_ldc (v := (-1000004)) hx hb hown (hts _ q962) dX0_recordOf_34 ?_
        refine lv_goto (tgt := 60) hx hb dX0_recordOf_36 (by decide) ?_
        exact z_iret (v := (-1000004)) hx hb hr hS (by unfold aRecordOf; rw [if_neg c_1, if_pos c_3, hI.1, if_neg c_5] <;> rfl) (by omega) (by omega) dX0_recordOf_60
    · have c_3 := bI_0.1 c_3
      refine lv_ldc (v := (-1000001)) hx hb hown (hts _ q592) dX0_recordOf_17 ?_
      exact z_iret (v := (-1000001)) hx hb hr hS (by unfold aRecordOf; rw [if_neg c_1, if_neg c_3]) (by omega) (by omega) dX0_recordOf_19

set_option maxHeartbeats 4000000 in
set_option maxRecDepth 100000 in
theorem mX0_slotOf (l : Launch) (D : va_G) (dA : Nat → ClassId) (ad : Nat → Nat) (sz : Nat) (xx : Nat) (st : Nat) (dq : Nat) (sb : Nat) (f : Nat → Int32) (M : Nat) (i : Int32) (wh : Int32) (hB : InvB f M) : Met l yX0_slotOf (ws_ yX0_slotOf cX0_slotOf 3 (some .int)) ({ frames := 6, cells := 0, slots := 0, locals := 160 }) (va_Pc [.ref xx, .int i, .int wh] (zP D dA ad (fun q => sz ≤ q) sz (fun H => va_P D vwCl [(xx, .inr (0, [.ref st, .ref dq, .ref sb]))] H ∧ SR D dA (fun q => sz ≤ q) f st H))) (zQi (fun rz H => rz = aSlotOf f i wh) (fun q => sz ≤ q)) (0) (0) (fun q => sz ≤ q) := by
  refine Met.ofW (cc := cX0_slotOf) (maxL := 3) (ret := (some .int)) (by decide) rfl ?_
  intro p e s m args below meth c s₁ B hml hv
  obtain ⟨rfl, hsz, hC, hP⟩ := hv
  have hx := B.exec
  have hb := B.bytes
  have hr := B.returns
  have hts := atoms_spec (ws := ws_ yX0_slotOf cX0_slotOf 3 (some .int)) B.pre
  have hts : ∀ w ∈ lw_all, w.before _ s = true := fun w h => hts w (List.mem_cons_of_mem _ h)
  have hown : s.vm.findClass RX0 = some m.cls := findClass_of_methodNamed B.named
  have hlocks := B.notSynchronized
  subst hsz
  have hK := hC.K
  have hA : ∀ q : Nat, s.heap.size ≤ q → s.heap.size ≤ q := fun _ h => h
  have hS : va_S (fun q => s.heap.size ≤ q) s.heap s.heap [] := va_S.rf
  obtain ⟨hP, hP2⟩ := hP
  have hP : va_P D vwCl [(xx, .inr (0, [.ref st, .ref dq, .ref sb]))] s.heap := hP
  have hl := lv_entry ([.ref xx, .int i, .int wh]) (n := 3) (Nat.le_of_ble_eq_true rfl)
  rw [lg_entry_eq]
  generalize (lg_sl ([.ref xx, .int i, .int wh]) ++ List.replicate (3 - (lg_sl ([.ref xx, .int i, .int wh])).length) Slot.unset).toArray = ls at hl ⊢
  have hl : lv_has ls 3 [(0, .ref xx), (1, .int i), (2, .int wh)] := hl
  obtain ⟨jo, slo, sao, seo, alo, mco, aeo, h, t0, c0, d0, e0, W0, t1, c1, d1, e1, W1, hZS, hP2, hh0, hh1, hW0, hW1, hgp0, hgp1⟩ := hP2
  have hI := hB.a
  have hn9 := hI.2.1
  obtain ⟨qa0, qb0, qc0, qd0⟩ := InvA_ap hI (b := 0) (by omega)
  obtain ⟨qa1, qb1, qc1, qd1⟩ := InvA_ap hI (b := 1) (by omega)
  obtain ⟨hac0, ha0⟩ := hB.ac (b := 0) (by omega)
  obtain ⟨hac1, ha1⟩ := hB.ac (b := 1) (by omega)
  have hP := hP.app hZS.1
  have hP : va_P D vwCl [(xx, .inr (0, [.ref st, .ref dq, .ref sb])), (st, .inr (1, [.ref jo, .ref slo, .ref sao, .ref seo, .int (f 1), .int (f 2), .int (f 3), .int (f 4), .int (f 5), .int (f 6)])), (jo, .inr (2, [.ref alo])), (alo, .inr (9, [.int mco, .ref aeo, .int (nI (rN f))])), (slo, .inl (dA 0, 3, .inl (slF f))), (sao, .inl (dA 4, 2, .inr (.inr (.inr (.inr h))))), (seo, .inl (dA 0, 2, .inl (seF f))), (t0, .inr (3, [.int (nI (rcN f 0)), .int (nI (apN f 0)), .ref c0, .int (nI (acN f 0))])), (c0, .inr (10, [.ref d0, .int (nI (uOf W0)), .int e0])), (d0, .inl (dA 1, 2, .inr (.inl (lwd W0)))), (t1, .inr (3, [.int (nI (rcN f 1)), .int (nI (apN f 1)), .ref c1, .int (nI (acN f 1))])), (c1, .inr (10, [.ref d1, .int (nI (uOf W1)), .int e1])), (d1, .inl (dA 1, 2, .inr (.inl (lwd W1))))] s.heap := hP
  refine lv_iload_n hx hb dX0_slotOf_0 rfl (lv_at hl 1 rfl) ?_
  refine z_cSi (As := [.int i]) (rest := []) ⟨hx, hb, hml, hown, hts⟩ (mX0_isSlot l D dA ad s.heap.size i) (va_cwS 1 hts (lw_S q545 q546 q54 q547) rfl rfl rfl (by decide +kernel) ⟨Nat.le_of_ble_eq_true rfl, Nat.le_of_ble_eq_true rfl⟩) hC hS (fun _ h => hA _ (Nat.le_trans hS.1 h)) trivial rfl rfl hl.1 (Nat.le_of_ble_eq_true rfl) dX0_slotOf_1 ⟨Nat.le_of_ble_eq_true rfl, Nat.le_of_ble_eq_true rfl⟩ (fun r_1 H locs hQ hF hS => ?_)
  have hP := va_P.ro hF hP
  obtain rfl : bI (nI 0 ≤ i ∧ i ≤ nI 2) = r_1 := hQ.symm
  refine lv_if_eq (tgt := 17) hx hb dX0_slotOf_4 (by decide) (fun c_2 => ?_) (fun c_2 => ?_)
  · have c_2 := bI_0.1 c_2
    refine lv_ldc (v := (-1000001)) hx hb hown (hts _ q592) dX0_slotOf_17 ?_
    exact z_iret (v := (-1000001)) hx hb hr hS (by unfold aSlotOf; rw [if_neg c_2]) (by omega) (by omega) dX0_slotOf_19
  · have c_2 := bI_1.1 c_2
    refine lv_iload_n hx hb dX0_slotOf_7 rfl (lv_at hl 2 rfl) ?_
    refine lv_i2l (v := (wh).toInt64) hx hb dX0_slotOf_8 (rfl) ?_
    refine lv_lconst (v := lN (0)) hx hb dX0_slotOf_9 (by decide) ?_
    refine lv_lconst (v := lN (1)) hx hb dX0_slotOf_10 (by decide) ?_
    refine z_cSi (As := [.long ((wh).toInt64), .long (lN (0)), .long (lN (1))]) (rest := []) ⟨hx, hb, hml, hown, hts⟩ (mX0_isBetween l D dA ad H.size ((wh).toInt64) (lN (0)) (lN (1))) (va_cwS 3 hts (lw_S q457 q458 q54 q459) rfl rfl rfl (by decide +kernel) ⟨Nat.le_of_ble_eq_true rfl, Nat.le_of_ble_eq_true rfl⟩) hC hS (fun _ h => hA _ (Nat.le_trans hS.1 h)) trivial rfl rfl hl.1 (Nat.le_of_ble_eq_true rfl) dX0_slotOf_11 ⟨Nat.le_of_ble_eq_true rfl, Nat.le_of_ble_eq_true rfl⟩ (fun r_3 H locs hQ hF hS => ?_)
    have hP := va_P.ro hF hP
    obtain rfl : bI ((lN (0)) ≤ ((wh).toInt64) ∧ ((wh).toInt64) ≤ (lN (1))) = r_3 := hQ.symm
    refine lv_tope (y := bI (nI 0 ≤ wh ∧ wh ≤ nI 1)) (btw_ok (by decide) (by decide)) ?_
    refine lv_if_ne (tgt := 20) hx hb dX0_slotOf_14 (by decide) (fun c_4 => ?_) (fun c_4 => ?_)
    · have c_4 := bI_1.1 c_4
      obtain ⟨j, hj, rfl⟩ := zr_of (k := i) (N := 2) c_2 (by decide)
      obtain ⟨j9, hj9, rfl⟩ := zr_of (k := wh) (N := 1) c_4 (by decide)
      rcases (show j9 = 0 ∨ j9 = 1 by omega) with rfl | rfl
      · refine lv_aload_n hx hb dX0_slotOf_20 rfl (lv_at hl 0 rfl) ?_
        refine va_get (D := D) (ci := 0) (v := .ref st) (C := RX0) (T := TX0) (N := 3) hx hb hts in_X0 hown hK hP 0 rfl rfl 0 (by decide) (hts _ q284) (fun _ h9 => h9) rfl dX0_slotOf_21 ?_
        refine va_getN (D := D) (ci := 1) (v := .ref slo) (C := RX1) (T := TX1) (N := 10) hx hb hts in_X1 hown hK hP 1 rfl rfl 1 (by decide) (Cx.nF hC (List.mem_of_getElem? (i := 6) rfl)) (fun _ h9 => h9) rfl dX0_slotOf_24 ?_
        refine lv_iload_n hx hb dX0_slotOf_27 rfl (lv_at hl 1 rfl) ?_
        refine va_iald hx hb hK hP 4 0 rfl rfl (vp_in_nI (by omega) (by omega)) dX0_slotOf_28 ?_
        refine lv_tope (y := (slF f) j) (by rw [nI_clamp (by omega)]) ?_
        refine lv_iconst (v := (-1)) hx hb dX0_slotOf_29 (by decide) ?_
        refine lv_icmp_ne (tgt := 38) hx hb dX0_slotOf_30 (by decide) (fun c_5 => ?_) (fun c_5 => ?_)
        · refine lv_iload_n hx hb dX0_slotOf_38 rfl (lv_at hl 2 rfl) ?_
          refine lv_if_ne (tgt := 54) hx hb dX0_slotOf_39 (by decide) (fun c_6 => ?_) (fun c_6 => ?_)
          · exact absurd c_6 (by decide)
          · refine lv_aload_n hx hb dX0_slotOf_42 rfl (lv_at hl 0 rfl) ?_
            refine va_get (D := D) (ci := 0) (v := .ref st) (C := RX0) (T := TX0) (N := 3) hx hb hts in_X0 hown hK hP 0 rfl rfl 0 (by decide) (hts _ q284) (fun _ h9 => h9) rfl dX0_slotOf_43 ?_
            refine va_getN (D := D) (ci := 1) (v := .ref slo) (C := RX1) (T := TX1) (N := 10) hx hb hts in_X1 hown hK hP 1 rfl rfl 1 (by decide) (Cx.nF hC (List.mem_of_getElem? (i := 6) rfl)) (fun _ h9 => h9) rfl dX0_slotOf_46 ?_
            refine lv_iload_n hx hb dX0_slotOf_49 rfl (lv_at hl 1 rfl) ?_
            refine va_iald hx hb hK hP 4 0 rfl rfl (vp_in_nI (by omega) (by omega)) dX0_slotOf_50 ?_
            refine lv_tope (y := (slF f) j) (by rw [nI_clamp (by omega)]) ?_
            refine lv_goto (tgt := 62) hx hb dX0_slotOf_51 (by decide) ?_
            exact z_iret (v := (slF f) j) hx hb hr hS (by unfold aSlotOf; rw [if_pos c_2, if_pos c_4, nI_clamp (by omega), if_neg (fun q => c_5 ((slF_n hB (by omega)).2 q)), slF_v (fun q => c_5 ((slF_n hB (by omega)).2 q)), if_pos (by decide)]) (by omega) (by omega) dX0_slotOf_62
        · refine lv_ldc (v := (-1000004)) hx hb hown (hts _ q962) dX0_slotOf_33 ?_
          refine lv_goto (tgt := 62) hx hb dX0_slotOf_35 (by decide) ?_
          exact z_iret (v := (-1000004)) hx hb hr hS (by unfold aSlotOf; rw [if_pos c_2, if_pos c_4, nI_clamp (by omega), if_pos ((slF_n hB (by omega)).1 c_5)] <;> rfl) (by omega) (by omega) dX0_slotOf_62
      · refine lv_aload_n hx hb dX0_slotOf_20 rfl (lv_at hl 0 rfl) ?_
        refine va_get (D := D) (ci := 0) (v := .ref st) (C := RX0) (T := TX0) (N := 3) hx hb hts in_X0 hown hK hP 0 rfl rfl 0 (by decide) (hts _ q284) (fun _ h9 => h9) rfl dX0_slotOf_21 ?_
        refine va_getN (D := D) (ci := 1) (v := .ref slo) (C := RX1) (T := TX1) (N := 10) hx hb hts in_X1 hown hK hP 1 rfl rfl 1 (by decide) (Cx.nF hC (List.mem_of_getElem? (i := 6) rfl)) (fun _ h9 => h9) rfl dX0_slotOf_24 ?_
        refine lv_iload_n hx hb dX0_slotOf_27 rfl (lv_at hl 1 rfl) ?_
        refine va_iald hx hb hK hP 4 0 rfl rfl (vp_in_nI (by omega) (by omega)) dX0_slotOf_28 ?_
        refine lv_tope (y := (slF f) j) (by rw [nI_clamp (by omega)]) ?_
        refine lv_iconst (v := (-1)) hx hb dX0_slotOf_29 (by decide) ?_
        refine lv_icmp_ne (tgt := 38) hx hb dX0_slotOf_30 (by decide) (fun c_7 => ?_) (fun c_7 => ?_)
        · refine lv_iload_n hx hb dX0_slotOf_38 rfl (lv_at hl 2 rfl) ?_
          refine lv_if_ne (tgt := 54) hx hb dX0_slotOf_39 (by decide) (fun c_8 => ?_) (fun c_8 => ?_)
          · refine lv_aload_n hx hb dX0_slotOf_54 rfl (lv_at hl 0 rfl) ?_
            refine va_get (D := D) (ci := 0) (v := .ref st) (C := RX0) (T := TX0) (N := 3) hx hb hts in_X0 hown hK hP 0 rfl rfl 0 (by decide) (hts _ q284) (fun _ h9 => h9) rfl dX0_slotOf_55 ?_
            refine lv_iload_n hx hb dX0_slotOf_58 rfl (lv_at hl 1 rfl) ?_
            refine z_cVi (As := [.int (nI (j))]) (rest := []) ⟨hx, hb, hml, hown, hts⟩ (mX1_puts_2 l D dA ad H.size st jo slo sao seo (f 1) (f 2) (f 3) (f 4) (f 5) (f 6) alo mco aeo (rN f) f (slF f) j (by omega)) (cwV 1 hts (lw_V q1011 q1012 q1013 q55 q1014) rfl rfl rfl (by decide +kernel) ⟨Nat.le_of_ble_eq_true rfl, Nat.le_of_ble_eq_true rfl⟩) hC hS (fun _ h => hA _ (Nat.le_trans hS.1 h)) ⟨(hP.sub (ws' := [(st, .inr (1, [.ref jo, .ref slo, .ref sao, .ref seo, .int (f 1), .int (f 2), .int (f 3), .int (f 4), .int (f 5), .int (f 6)])), (jo, .inr (2, [.ref alo])), (alo, .inr (9, [.int mco, .ref aeo, .int (nI (rN f))])), (slo, .inl (dA 0, 3, .inl (slF f)))]) [1, 2, 3, 4] rfl), (hP2.kept hS).ro⟩ (va_recv hK hP (ci := 1) (q0 := 1) rfl rfl) rfl rfl hl.1 (Nat.le_of_ble_eq_true rfl) dX0_slotOf_59 ⟨Nat.le_of_ble_eq_true rfl, Nat.le_of_ble_eq_true rfl⟩ (fun r_9 H locs hQ hF hS => ?_)
            have hP := va_P.ro hF hP
            obtain rfl : nI (putsOf f ((slF f) j) (rN f)) = r_9 := hQ.symm
            exact z_iret (v := nI (putsOf f ((slF f) j) (rN f))) hx hb hr hS (by unfold aSlotOf; rw [if_pos c_2, if_pos c_4, nI_clamp (by omega), if_neg (fun q => c_7 ((slF_n hB (by omega)).2 q)), slF_v (fun q => c_7 ((slF_n hB (by omega)).2 q)), if_neg (by decide)]) (by omega) (by omega) dX0_slotOf_62
          · exact absurd c_8 (by decide)
        · refine lv_ldc (v := (-1000004)) hx hb hown (hts _ q962) dX0_slotOf_33 ?_
          refine lv_goto (tgt := 62) hx hb dX0_slotOf_35 (by decide) ?_
          exact z_iret (v := (-1000004)) hx hb hr hS (by unfold aSlotOf; rw [if_pos c_2, if_pos c_4, nI_clamp (by omega), if_pos ((slF_n hB (by omega)).1 c_7)] <;> rfl) (by omega) (by omega) dX0_slotOf_62
    · have c_4 := bI_0.1 c_4
      refine lv_ldc (v := (-1000001)) hx hb hown (hts _ q592) dX0_slotOf_17 ?_
      exact z_iret (v := (-1000001)) hx hb hr hS (by unfold aSlotOf; rw [if_pos c_2, if_neg c_4]) (by omega) (by omega) dX0_slotOf_19

set_option maxHeartbeats 4000000 in
set_option maxRecDepth 100000 in
theorem mX0_wouldLose (l : Launch) (D : va_G) (dA : Nat → ClassId) (ad : Nat → Nat) (sz : Nat) (xx : Nat) (st : Nat) (dq : Nat) (sb : Nat) (f : Nat → Int32) (M : Nat) (i : Int32) (hB : InvB f M) : Met l yX0_wouldLose (ws_ yX0_wouldLose cX0_wouldLose 3 (some .int)) ({ frames := 6, cells := 0, slots := 0, locals := 160 }) (va_Pc [.ref xx, .int i] (zP D dA ad (fun q => sz ≤ q) sz (fun H => va_P D vwCl [(xx, .inr (0, [.ref st, .ref dq, .ref sb]))] H ∧ SR D dA (fun q => sz ≤ q) f st H))) (zQi (fun rz H => rz = aWouldLose f i) (fun q => sz ≤ q)) (0) (0) (fun q => sz ≤ q) := by
  refine Met.ofW (cc := cX0_wouldLose) (maxL := 3) (ret := (some .int)) (by decide) rfl ?_
  intro p e s m args below meth c s₁ B hml hv
  obtain ⟨rfl, hsz, hC, hP⟩ := hv
  have hx := B.exec
  have hb := B.bytes
  have hr := B.returns
  have hts := atoms_spec (ws := ws_ yX0_wouldLose cX0_wouldLose 3 (some .int)) B.pre
  have hts : ∀ w ∈ lw_all, w.before _ s = true := fun w h => hts w (List.mem_cons_of_mem _ h)
  have hown : s.vm.findClass RX0 = some m.cls := findClass_of_methodNamed B.named
  have hlocks := B.notSynchronized
  subst hsz
  have hK := hC.K
  have hA : ∀ q : Nat, s.heap.size ≤ q → s.heap.size ≤ q := fun _ h => h
  have hS : va_S (fun q => s.heap.size ≤ q) s.heap s.heap [] := va_S.rf
  obtain ⟨hP, hP2⟩ := hP
  have hP : va_P D vwCl [(xx, .inr (0, [.ref st, .ref dq, .ref sb]))] s.heap := hP
  have hl := lv_entry ([.ref xx, .int i]) (n := 3) (Nat.le_of_ble_eq_true rfl)
  rw [lg_entry_eq]
  generalize (lg_sl ([.ref xx, .int i]) ++ List.replicate (3 - (lg_sl ([.ref xx, .int i])).length) Slot.unset).toArray = ls at hl ⊢
  have hl : lv_has ls 3 [(0, .ref xx), (1, .int i)] := hl
  obtain ⟨jo, slo, sao, seo, alo, mco, aeo, h, t0, c0, d0, e0, W0, t1, c1, d1, e1, W1, hZS, hP2, hh0, hh1, hW0, hW1, hgp0, hgp1⟩ := hP2
  have hI := hB.a
  have hn9 := hI.2.1
  obtain ⟨qa0, qb0, qc0, qd0⟩ := InvA_ap hI (b := 0) (by omega)
  obtain ⟨qa1, qb1, qc1, qd1⟩ := InvA_ap hI (b := 1) (by omega)
  obtain ⟨hac0, ha0⟩ := hB.ac (b := 0) (by omega)
  obtain ⟨hac1, ha1⟩ := hB.ac (b := 1) (by omega)
  have hP := hP.app hZS.1
  have hP : va_P D vwCl [(xx, .inr (0, [.ref st, .ref dq, .ref sb])), (st, .inr (1, [.ref jo, .ref slo, .ref sao, .ref seo, .int (f 1), .int (f 2), .int (f 3), .int (f 4), .int (f 5), .int (f 6)])), (jo, .inr (2, [.ref alo])), (alo, .inr (9, [.int mco, .ref aeo, .int (nI (rN f))])), (slo, .inl (dA 0, 3, .inl (slF f))), (sao, .inl (dA 4, 2, .inr (.inr (.inr (.inr h))))), (seo, .inl (dA 0, 2, .inl (seF f))), (t0, .inr (3, [.int (nI (rcN f 0)), .int (nI (apN f 0)), .ref c0, .int (nI (acN f 0))])), (c0, .inr (10, [.ref d0, .int (nI (uOf W0)), .int e0])), (d0, .inl (dA 1, 2, .inr (.inl (lwd W0)))), (t1, .inr (3, [.int (nI (rcN f 1)), .int (nI (apN f 1)), .ref c1, .int (nI (acN f 1))])), (c1, .inr (10, [.ref d1, .int (nI (uOf W1)), .int e1])), (d1, .inl (dA 1, 2, .inr (.inl (lwd W1))))] s.heap := hP
  refine lv_iload_n hx hb dX0_wouldLose_0 rfl (lv_at hl 1 rfl) ?_
  refine z_cSi (As := [.int i]) (rest := []) ⟨hx, hb, hml, hown, hts⟩ (mX0_isStandby l D dA ad s.heap.size i) (va_cwS 1 hts (lw_S q542 q543 q54 q544) rfl rfl rfl (by decide +kernel) ⟨Nat.le_of_ble_eq_true rfl, Nat.le_of_ble_eq_true rfl⟩) hC hS (fun _ h => hA _ (Nat.le_trans hS.1 h)) trivial rfl rfl hl.1 (Nat.le_of_ble_eq_true rfl) dX0_wouldLose_1 ⟨Nat.le_of_ble_eq_true rfl, Nat.le_of_ble_eq_true rfl⟩ (fun r_1 H locs hQ hF hS => ?_)
  have hP := va_P.ro hF hP
  obtain rfl : bI (nI 0 ≤ i ∧ i ≤ nI 1) = r_1 := hQ.symm
  refine lv_if_ne (tgt := 10) hx hb dX0_wouldLose_4 (by decide) (fun c_2 => ?_) (fun c_2 => ?_)
  · have c_2 := bI_1.1 c_2
    obtain ⟨j9, hj9, rfl⟩ := zr_of (k := i) (N := 1) c_2 (by decide)
    rcases (show j9 = 0 ∨ j9 = 1 by omega) with rfl | rfl
    · refine lv_aload_n hx hb dX0_wouldLose_10 rfl (lv_at hl 0 rfl) ?_
      refine va_get (D := D) (ci := 0) (v := .ref st) (C := RX0) (T := TX0) (N := 3) hx hb hts in_X0 hown hK hP 0 rfl rfl 0 (by decide) (hts _ q284) (fun _ h9 => h9) rfl dX0_wouldLose_11 ?_
      refine va_getN (D := D) (ci := 1) (v := .ref sao) (C := RX1) (T := TX1) (N := 10) hx hb hts in_X1 hown hK hP 1 rfl rfl 2 (by decide) (Cx.nF hC (List.mem_of_getElem? (i := 7) rfl)) (fun _ h9 => h9) rfl dX0_wouldLose_14 ?_
      refine lv_iload_n hx hb dX0_wouldLose_17 rfl (lv_at hl 1 rfl) ?_
      refine va_aldq hx hb hK hP 5 4 rfl rfl (vp_in_nI (by omega) (by omega)) dX0_wouldLose_18 ?_
      refine lv_topv (y := .ref t0) (by rw [nI_clamp (by omega)]; rw [hh0]; rfl) ?_
      refine lv_astore_n (lv' := [(2, .ref t0), (0, .ref xx), (1, .int (nI (0)))]) hx hb dX0_wouldLose_19 rfl hl (by decide) rfl (fun ls hl => ?_)
      refine lv_aload_n hx hb dX0_wouldLose_20 rfl (lv_at hl 0 rfl) ?_
      refine va_getN (D := D) (ci := 3) (v := .int (nI (acN f 0))) (C := RX3) (T := TX3) (N := 4) hx hb hts in_X3 hown hK hP 7 rfl rfl 3 (by decide) (Cx.nF hC (List.mem_of_getElem? (i := 4) rfl)) (fun _ h9 => h9) rfl dX0_wouldLose_21 ?_
      refine lv_if_eq (tgt := 32) hx hb dX0_wouldLose_24 (by decide) (fun c_3 => ?_) (fun c_3 => ?_)
      · have c_3 := (nI_eq (by omega) (by omega)).1 (show nI _ = nI 0 from c_3)
        refine lv_aload_n hx hb dX0_wouldLose_32 rfl (lv_at hl 1 rfl) ?_
        refine va_get (D := D) (ci := 0) (v := .ref st) (C := RX0) (T := TX0) (N := 3) hx hb hts in_X0 hown hK hP 0 rfl rfl 0 (by decide) (hts _ q284) (fun _ h9 => h9) rfl dX0_wouldLose_33 ?_
        refine lv_aload_n hx hb dX0_wouldLose_36 rfl (lv_at hl 0 rfl) ?_
        refine va_getN (D := D) (ci := 3) (v := .int (nI (apN f 0))) (C := RX3) (T := TX3) (N := 4) hx hb hts in_X3 hown hK hP 7 rfl rfl 1 (by decide) (Cx.nF hC (List.mem_of_getElem? (i := 2) rfl)) (fun _ h9 => h9) rfl dX0_wouldLose_37 ?_
        refine z_cVi (As := [.int (nI (apN f 0))]) (rest := []) ⟨hx, hb, hml, hown, hts⟩ (mX1_commitsBehind l D dA ad H.size st jo slo sao seo (f 1) (f 2) (f 3) (f 4) (f 5) (f 6) alo mco aeo (rN f) f (apN f 0) (by omega)) (cwV 1 hts (lw_V q1002 q728 q729 q55 q730) rfl rfl rfl (by decide +kernel) ⟨Nat.le_of_ble_eq_true rfl, Nat.le_of_ble_eq_true rfl⟩) hC hS (fun _ h => hA _ (Nat.le_trans hS.1 h)) ⟨(hP.sub (ws' := [(st, .inr (1, [.ref jo, .ref slo, .ref sao, .ref seo, .int (f 1), .int (f 2), .int (f 3), .int (f 4), .int (f 5), .int (f 6)])), (jo, .inr (2, [.ref alo])), (alo, .inr (9, [.int mco, .ref aeo, .int (nI (rN f))]))]) [1, 2, 3] rfl), (hP2.kept hS).ro⟩ (va_recv hK hP (ci := 1) (q0 := 1) rfl rfl) rfl rfl hl.1 (Nat.le_of_ble_eq_true rfl) dX0_wouldLose_40 ⟨Nat.le_of_ble_eq_true rfl, Nat.le_of_ble_eq_true rfl⟩ (fun r_4 H locs hQ hF hS => ?_)
        have hP := va_P.ro hF hP
        obtain rfl : nI (commits f ((apN f 0) + 1) ((rN f) - (apN f 0))) = r_4 := hQ.symm
        exact z_iret (v := nI (commits f ((apN f 0) + 1) ((rN f) - (apN f 0)))) hx hb hr hS (by unfold aWouldLose; rw [if_pos c_2, nI_clamp (by omega), if_neg (fun q => by have := nI_inj (by omega) (by omega) ((hac0.symm.trans q)); omega)] <;> rfl) (by omega) (by omega) dX0_wouldLose_43
      · have c_3 := mt (nI_eq (by omega) (by omega)).2 (show ¬ nI _ = nI 0 from c_3)
        refine lv_ldc (v := (-1000002)) hx hb hown (hts _ q947) dX0_wouldLose_27 ?_
        refine lv_goto (tgt := 43) hx hb dX0_wouldLose_29 (by decide) ?_
        exact z_iret (v := (-1000002)) hx hb hr hS (by unfold aWouldLose; rw [if_pos c_2, nI_clamp (by omega), if_pos (by rw [hac0, show acN f 0 = 1 by omega])] <;> rfl) (by omega) (by omega) dX0_wouldLose_43
    · refine lv_aload_n hx hb dX0_wouldLose_10 rfl (lv_at hl 0 rfl) ?_
      refine va_get (D := D) (ci := 0) (v := .ref st) (C := RX0) (T := TX0) (N := 3) hx hb hts in_X0 hown hK hP 0 rfl rfl 0 (by decide) (hts _ q284) (fun _ h9 => h9) rfl dX0_wouldLose_11 ?_
      refine va_getN (D := D) (ci := 1) (v := .ref sao) (C := RX1) (T := TX1) (N := 10) hx hb hts in_X1 hown hK hP 1 rfl rfl 2 (by decide) (Cx.nF hC (List.mem_of_getElem? (i := 7) rfl)) (fun _ h9 => h9) rfl dX0_wouldLose_14 ?_
      refine lv_iload_n hx hb dX0_wouldLose_17 rfl (lv_at hl 1 rfl) ?_
      refine va_aldq hx hb hK hP 5 4 rfl rfl (vp_in_nI (by omega) (by omega)) dX0_wouldLose_18 ?_
      refine lv_topv (y := .ref t1) (by rw [nI_clamp (by omega)]; rw [hh1]; rfl) ?_
      refine lv_astore_n (lv' := [(2, .ref t1), (0, .ref xx), (1, .int (nI (1)))]) hx hb dX0_wouldLose_19 rfl hl (by decide) rfl (fun ls hl => ?_)
      refine lv_aload_n hx hb dX0_wouldLose_20 rfl (lv_at hl 0 rfl) ?_
      refine va_getN (D := D) (ci := 3) (v := .int (nI (acN f 1))) (C := RX3) (T := TX3) (N := 4) hx hb hts in_X3 hown hK hP 10 rfl rfl 3 (by decide) (Cx.nF hC (List.mem_of_getElem? (i := 4) rfl)) (fun _ h9 => h9) rfl dX0_wouldLose_21 ?_
      refine lv_if_eq (tgt := 32) hx hb dX0_wouldLose_24 (by decide) (fun c_5 => ?_) (fun c_5 => ?_)
      · have c_5 := (nI_eq (by omega) (by omega)).1 (show nI _ = nI 0 from c_5)
        refine lv_aload_n hx hb dX0_wouldLose_32 rfl (lv_at hl 1 rfl) ?_
        refine va_get (D := D) (ci := 0) (v := .ref st) (C := RX0) (T := TX0) (N := 3) hx hb hts in_X0 hown hK hP 0 rfl rfl 0 (by decide) (hts _ q284) (fun _ h9 => h9) rfl dX0_wouldLose_33 ?_
        refine lv_aload_n hx hb dX0_wouldLose_36 rfl (lv_at hl 0 rfl) ?_
        refine va_getN (D := D) (ci := 3) (v := .int (nI (apN f 1))) (C := RX3) (T := TX3) (N := 4) hx hb hts in_X3 hown hK hP 10 rfl rfl 1 (by decide) (Cx.nF hC (List.mem_of_getElem? (i := 2) rfl)) (fun _ h9 => h9) rfl dX0_wouldLose_37 ?_
        refine z_cVi (As := [.int (nI (apN f 1))]) (rest := []) ⟨hx, hb, hml, hown, hts⟩ (mX1_commitsBehind l D dA ad H.size st jo slo sao seo (f 1) (f 2) (f 3) (f 4) (f 5) (f 6) alo mco aeo (rN f) f (apN f 1) (by omega)) (cwV 1 hts (lw_V q1002 q728 q729 q55 q730) rfl rfl rfl (by decide +kernel) ⟨Nat.le_of_ble_eq_true rfl, Nat.le_of_ble_eq_true rfl⟩) hC hS (fun _ h => hA _ (Nat.le_trans hS.1 h)) ⟨(hP.sub (ws' := [(st, .inr (1, [.ref jo, .ref slo, .ref sao, .ref seo, .int (f 1), .int (f 2), .int (f 3), .int (f 4), .int (f 5), .int (f 6)])), (jo, .inr (2, [.ref alo])), (alo, .inr (9, [.int mco, .ref aeo, .int (nI (rN f))]))]) [1, 2, 3] rfl), (hP2.kept hS).ro⟩ (va_recv hK hP (ci := 1) (q0 := 1) rfl rfl) rfl rfl hl.1 (Nat.le_of_ble_eq_true rfl) dX0_wouldLose_40 ⟨Nat.le_of_ble_eq_true rfl, Nat.le_of_ble_eq_true rfl⟩ (fun r_6 H locs hQ hF hS => ?_)
        have hP := va_P.ro hF hP
        obtain rfl : nI (commits f ((apN f 1) + 1) ((rN f) - (apN f 1))) = r_6 := hQ.symm
        exact z_iret (v := nI (commits f ((apN f 1) + 1) ((rN f) - (apN f 1)))) hx hb hr hS (by unfold aWouldLose; rw [if_pos c_2, nI_clamp (by omega), if_neg (fun q => by have := nI_inj (by omega) (by omega) ((hac1.symm.trans q)); omega)] <;> rfl) (by omega) (by omega) dX0_wouldLose_43
      · have c_5 := mt (nI_eq (by omega) (by omega)).2 (show ¬ nI _ = nI 0 from c_5)
        refine lv_ldc (v := (-1000002)) hx hb hown (hts _ q947) dX0_wouldLose_27 ?_
        refine lv_goto (tgt := 43) hx hb dX0_wouldLose_29 (by decide) ?_
        exact z_iret (v := (-1000002)) hx hb hr hS (by unfold aWouldLose; rw [if_pos c_2, nI_clamp (by omega), if_pos (by rw [hac1, show acN f 1 = 1 by omega])] <;> rfl) (by omega) (by omega) dX0_wouldLose_43
  · have c_2 := bI_0.1 c_2
    refine lv_ldc (v := (-1000001)) hx hb hown (hts _ q592) dX0_wouldLose_7 ?_
    exact z_iret (v := (-1000001)) hx hb hr hS (by unfold aWouldLose; rw [if_neg c_2]) (by omega) (by omega) dX0_wouldLose_9
