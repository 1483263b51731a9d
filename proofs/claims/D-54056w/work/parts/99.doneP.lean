set_option maxHeartbeats 4000000 in
set_option maxRecDepth 100000 in
theorem mX0_done_p (l : Launch) (D : va_G) (dA : Nat → ClassId) (ad : Nat → Nat) (A : Nat → Prop) (sz : Nat) (st : Nat) (jn : Nat) (al : Nat) (mc : Int32) (ae : Nat) (sl : Nat) (sa : Nat) (h : Nat → Option Nat) (se : Nat) (s0 : Nat) (b0 : Nat) (w0 : Nat) (sk0 : Int32) (W0 : Nat) (s1 : Nat) (b1 : Nat) (w1 : Nat) (sk1 : Int32) (W1 : Nat) (xq : Nat) (xe : va_E) (g : Nat → Option Nat) (Bx : Nat → Prop) (f : Nat → Int32) (M : Nat) (nb : Nat) (len : Nat) (nh : Nat → Int32) (hA : ∀ q, sz ≤ q → A q) (hB : InvB f M) (hh0 : h 0 = some s0) (hh1 : h 1 = some s1) (hW0 : W0 < 2 ^ 101) (hW1 : W1 < 2 ^ 101) (hgp0 : gapB f 0 W0) (hgp1 : gapB f 1 W1) (hLT : LogT dA (ad 0) ae (rN f) g xq xe) (hBx : ∀ q, Bx q → q < sz) (hl1 : 3 ≤ len) (hl2 : len ≤ 3) (hstr : l.stackTraces = false) (hD : va_D A [(st, .inr (1, [.ref jn, .ref sl, .ref sa, .ref se, .int (f 1), .int (f 2), .int (f 3), .int (f 4), .int (f 5), .int (f 6)])), (jn, .inr (2, [.ref al])), (al, .inr (9, [.int mc, .ref ae, .int (nI (rN f))])), (sl, .inl (dA 0, 3, .inl (slF f))), (sa, .inl (dA 4, 2, .inr (.inr (.inr (.inr h))))), (se, .inl (dA 0, 2, .inl (seF f))), (s0, .inr (3, [.int (nI (rcN f 0)), .int (nI (apN f 0)), .ref b0, .int (nI (acN f 0))])), (b0, .inr (10, [.ref w0, .int (nI (uOf W0)), .int sk0])), (w0, .inl (dA 1, 2, .inr (.inl (lwd W0)))), (s1, .inr (3, [.int (nI (rcN f 1)), .int (nI (apN f 1)), .ref b1, .int (nI (acN f 1))])), (b1, .inr (10, [.ref w1, .int (nI (uOf W1)), .int sk1])), (w1, .inl (dA 1, 2, .inr (.inl (lwd W1)))), (xq, xe)]) : vx_Met l yX0_done (ws_ yX0_done cX0_done 4 (some .int)) ({ frames := 10, cells := 6, slots := 260, locals := 340 }) (va_Pc [.ref st, .int (nI (112)), .ref nb] (zP D dA ad A sz (fun H => va_P D vwCl [(st, .inr (1, [.ref jn, .ref sl, .ref sa, .ref se, .int (f 1), .int (f 2), .int (f 3), .int (f 4), .int (f 5), .int (f 6)])), (jn, .inr (2, [.ref al])), (al, .inr (9, [.int mc, .ref ae, .int (nI (rN f))])), (sl, .inl (dA 0, 3, .inl (slF f))), (sa, .inl (dA 4, 2, .inr (.inr (.inr (.inr h))))), (se, .inl (dA 0, 2, .inl (seF f))), (s0, .inr (3, [.int (nI (rcN f 0)), .int (nI (apN f 0)), .ref b0, .int (nI (acN f 0))])), (b0, .inr (10, [.ref w0, .int (nI (uOf W0)), .int sk0])), (w0, .inl (dA 1, 2, .inr (.inl (lwd W0)))), (s1, .inr (3, [.int (nI (rcN f 1)), .int (nI (apN f 1)), .ref b1, .int (nI (acN f 1))])), (b1, .inr (10, [.ref w1, .int (nI (uOf W1)), .int sk1])), (w1, .inl (dA 1, 2, .inr (.inl (lwd W1)))), (xq, xe)] H ∧ zFz D A [(nb, .inl (dA 0, len, .inl nh))] H ∧ NtA D (fun q => A q ∨ Bx q) f g (rN f) H))) (zQi (fun rz H => ∃ f9 : Nat → Int32, ∃ mc9 : Int32, ∃ ae9 : Nat, ∃ b09 : Nat, ∃ w09 : Nat, ∃ sk09 : Int32, ∃ W09 : Nat, ∃ b19 : Nat, ∃ w19 : Nat, ∃ sk19 : Int32, ∃ W19 : Nat, ∃ xq9 : Nat, ∃ xe9 : va_E, ∃ g9 : Nat → Option Nat, oPut f (nh 0) (nh 1) (nh 2) = (true, rz, f9) ∧ TrO D dA Bx (ad 0) f9 st jn al mc9 ae9 sl sa h se s0 b09 w09 sk09 W09 s1 b19 w19 sk19 W19 xq9 xe9 g9 H ∧ va_D A (trW dA f9 st jn al mc9 ae9 sl sa h se s0 b09 w09 sk09 W09 s1 b19 w19 sk19 W19 xq9 xe9)) A) (zX "FencedStandbys$Refused" (fun q H => ∃ k, oPut f (nh 0) (nh 1) (nh 2) = (false, k, f) ∧ RfP D k q H) (A)) (6) (260) A := by
  refine vx_ofW (cc := cX0_done) (maxL := 4) (ret := (some .int)) (by decide) rfl ?_
  intro p e s m args below meth c s₁ B hml htab hv
  obtain ⟨rfl, hsz, hC, hP⟩ := hv
  have hx := B.exec
  have hb := B.bytes
  have hr := B.returns
  have hts := atoms_spec (ws := ws_ yX0_done cX0_done 4 (some .int)) B.pre
  have hts : ∀ w ∈ lw_all, w.before _ s = true := fun w h => hts w (List.mem_cons_of_mem _ h)
  have hown : s.vm.findClass RX0 = some m.cls := findClass_of_methodNamed B.named
  have hlocks := B.notSynchronized
  subst hsz
  have hK := hC.K
  have hS : va_S A s.heap s.heap [] := va_S.rf
  obtain ⟨hP, hZ, hP2⟩ := hP
  have hP : va_P D vwCl [(st, .inr (1, [.ref jn, .ref sl, .ref sa, .ref se, .int (f 1), .int (f 2), .int (f 3), .int (f 4), .int (f 5), .int (f 6)])), (jn, .inr (2, [.ref al])), (al, .inr (9, [.int mc, .ref ae, .int (nI (rN f))])), (sl, .inl (dA 0, 3, .inl (slF f))), (sa, .inl (dA 4, 2, .inr (.inr (.inr (.inr h))))), (se, .inl (dA 0, 2, .inl (seF f))), (s0, .inr (3, [.int (nI (rcN f 0)), .int (nI (apN f 0)), .ref b0, .int (nI (acN f 0))])), (b0, .inr (10, [.ref w0, .int (nI (uOf W0)), .int sk0])), (w0, .inl (dA 1, 2, .inr (.inl (lwd W0)))), (s1, .inr (3, [.int (nI (rcN f 1)), .int (nI (apN f 1)), .ref b1, .int (nI (acN f 1))])), (b1, .inr (10, [.ref w1, .int (nI (uOf W1)), .int sk1])), (w1, .inl (dA 1, 2, .inr (.inl (lwd W1)))), (xq, xe)] s.heap := hP
  have hl := lv_entry ([.ref st, .int (nI (112)), .ref nb]) (n := 4) (Nat.le_of_ble_eq_true rfl)
  rw [lg_entry_eq]
  generalize (lg_sl ([.ref st, .int (nI (112)), .ref nb]) ++ List.replicate (4 - (lg_sl ([.ref st, .int (nI (112)), .ref nb])).length) Slot.unset).toArray = ls at hl ⊢
  have hl : lv_has ls 4 [(0, .ref st), (1, .int (nI (112))), (2, .ref nb)] := hl
  have hI := hB.a
  have hn9 := hI.2.1
  obtain ⟨qa0, qb0, qc0, qd0⟩ := InvA_ap hI (b := 0) (by omega)
  obtain ⟨qa1, qb1, qc1, qd1⟩ := InvA_ap hI (b := 1) (by omega)
  obtain ⟨hac0, ha0⟩ := hB.ac (b := 0) (by omega)
  obtain ⟨hac1, ha1⟩ := hB.ac (b := 1) (by omega)
  refine lv_iload_n hx hb dX0_done_0 rfl (lv_at hl 1 rfl) ?_
  refine lv_bipush (v := nI (116)) hx hb dX0_done_1 (by decide) ?_
  refine lv_icmp_ne (tgt := 20) hx hb dX0_done_3 (by decide) (fun c_1 => ?_) (fun c_1 => ?_)
  · refine va_ldcS hx hb hown (Cx.nS hC (List.mem_of_getElem? (i := 0) rfl)) dX0_done_20 ?_
    refine lv_iload_n hx hb dX0_done_22 rfl (lv_at hl 1 rfl) ?_
    refine z_cVi (As := [.int (nI (112))]) (rest := []) ⟨hx, hb, hml, hown, hts⟩ (mJ7_indexOf l D dA ad s.heap.size 0 112 (by omega) (by omega)) (cwV 1 hts (lw_V q461 q462 q463 q65 q464) rfl rfl rfl (by decide +kernel) ⟨Nat.le_of_ble_eq_true rfl, Nat.le_of_ble_eq_true rfl⟩) hC hS (fun _ h => hA _ (Nat.le_trans hS.1 h)) trivial (vk_recv (i := 0) hC.st (by omega) hS) rfl rfl hl.1 (Nat.le_of_ble_eq_true rfl) dX0_done_23 ⟨by first | exact Nat.le_of_ble_eq_true rfl | (show _ ≤ _; simp only [headSpec]; omega), by first | exact Nat.le_of_ble_eq_true rfl | (show _ ≤ _; simp only [headSpec]; omega)⟩ (fun r_2 H locs hQ hF hS => ?_)
    have hP := va_P.ro hF hP
    refine lv_if_lt (tgt := 38) hx hb dX0_done_26 (by decide) (fun c_3 => ?_) (fun c_3 => ?_)
    · refine lv_aload_n hx hb dX0_done_38 rfl (lv_at hl 2 rfl) ?_
      refine lv_iconst (v := nI (0)) hx hb dX0_done_39 (by decide) ?_
      refine va_iald hx hb hK (hZ.at hS) 0 0 rfl rfl (vp_in_nI (by omega) (by omega)) dX0_done_40 ?_
      refine lv_tope (y := nh 0) (by rw [nI_clamp (by omega)]) ?_
      refine z_cSi (As := [.int (nh 0)]) (rest := []) ⟨hx, hb, hml, hown, hts⟩ (mX0_isSlot l D dA ad H.size (nh 0)) (va_cwS 1 hts (lw_S q545 q546 q54 q547) rfl rfl rfl (by decide +kernel) ⟨Nat.le_of_ble_eq_true rfl, Nat.le_of_ble_eq_true rfl⟩) hC hS (fun _ h => hA _ (Nat.le_trans hS.1 h)) trivial rfl rfl hl.1 (Nat.le_of_ble_eq_true rfl) dX0_done_41 ⟨by first | exact Nat.le_of_ble_eq_true rfl | (show _ ≤ _; simp only [headSpec]; omega), by first | exact Nat.le_of_ble_eq_true rfl | (show _ ≤ _; simp only [headSpec]; omega)⟩ (fun r_4 H locs hQ hF hS => ?_)
      have hP := va_P.ro hF hP
      obtain rfl : bI (nI 0 ≤ (nh 0) ∧ (nh 0) ≤ nI 2) = r_4 := hQ.symm
      refine lv_istore_n (lv' := [(3, .int (bI (nI 0 ≤ (nh 0) ∧ (nh 0) ≤ nI 2))), (0, .ref st), (1, .int (nI (112))), (2, .ref nb)]) hx hb dX0_done_44 rfl hl (by decide) rfl (fun ls hl => ?_)
      refine lv_iload_n hx hb dX0_done_45 rfl (lv_at hl 0 rfl) ?_
      refine lv_iload_n hx hb dX0_done_46 rfl (lv_at hl 2 rfl) ?_
      refine lv_bipush (v := nI (112)) hx hb dX0_done_47 (by decide) ?_
      refine lv_icmp_ne (tgt := 75) hx hb dX0_done_49 (by decide) (fun c_5 => ?_) (fun c_5 => ?_)
      · exact absurd c_5 (by decide)
      · refine lv_aload_n hx hb dX0_done_52 rfl (lv_at hl 3 rfl) ?_
        refine lv_iconst (v := nI (1)) hx hb dX0_done_53 (by decide) ?_
        refine va_iald hx hb hK (hZ.at hS) 0 0 rfl rfl (vp_in_nI (by omega) (by omega)) dX0_done_54 ?_
        refine lv_tope (y := nh 1) (by rw [nI_clamp (by omega)]) ?_
        refine z_cSi (As := [.int (nh 1)]) (rest := [.int (bI (nI 0 ≤ (nh 0) ∧ (nh 0) ≤ nI 2))]) ⟨hx, hb, hml, hown, hts⟩ (mX0_isKey l D dA ad H.size (nh 1)) (va_cwS 1 hts (lw_S q549 q550 q54 q551) rfl rfl rfl (by decide +kernel) ⟨Nat.le_of_ble_eq_true rfl, Nat.le_of_ble_eq_true rfl⟩) hC hS (fun _ h => hA _ (Nat.le_trans hS.1 h)) trivial rfl rfl hl.1 (Nat.le_of_ble_eq_true rfl) dX0_done_55 ⟨by first | exact Nat.le_of_ble_eq_true rfl | (show _ ≤ _; simp only [headSpec]; omega), by first | exact Nat.le_of_ble_eq_true rfl | (show _ ≤ _; simp only [headSpec]; omega)⟩ (fun r_6 H locs hQ hF hS => ?_)
        have hP := va_P.ro hF hP
        obtain rfl : bI (nI 0 ≤ (nh 1) ∧ (nh 1) ≤ nI 23) = r_6 := hQ.symm
        refine lv_if_eq (tgt := 79) hx hb dX0_done_58 (by decide) (fun c_7 => ?_) (fun c_7 => ?_)
        · have c_7 := bI_0.1 c_7
          refine lv_iconst (v := nI (0)) hx hb dX0_done_79 (by decide) ?_
          refine lv_iand hx hb dX0_done_80 ?_
          refine lv_tope (y := nI (0)) (bI_and0) ?_
          refine lv_istore_n (lv' := [(3, .int (nI (0))), (0, .ref st), (1, .int (nI (112))), (2, .ref nb)]) hx hb dX0_done_81 rfl hl (by decide) rfl (fun ls hl => ?_)
          refine lv_iload_n hx hb dX0_done_82 rfl (lv_at hl 0 rfl) ?_
          refine lv_iload_n hx hb dX0_done_83 rfl (lv_at hl 2 rfl) ?_
          refine lv_bipush (v := nI (115)) hx hb dX0_done_84 (by decide) ?_
          refine lv_icmp_ne (tgt := 103) hx hb dX0_done_86 (by decide) (fun c_8 => ?_) (fun c_8 => ?_)
          · refine lv_iconst (v := nI (1)) hx hb dX0_done_103 (by decide) ?_
            refine lv_goto (tgt := 108) hx hb dX0_done_104 (by decide) ?_
            refine lv_iand hx hb dX0_done_108 ?_
            refine lv_tope (y := nI (0)) (by decide) ?_
            refine lv_istore_n (lv' := [(3, .int (nI (0))), (0, .ref st), (1, .int (nI (112))), (2, .ref nb)]) hx hb dX0_done_109 rfl hl (by decide) rfl (fun ls hl => ?_)
            refine lv_iload_n hx hb dX0_done_110 rfl (lv_at hl 0 rfl) ?_
            refine lv_iload_n hx hb dX0_done_111 rfl (lv_at hl 2 rfl) ?_
            refine lv_bipush (v := nI (108)) hx hb dX0_done_112 (by decide) ?_
            refine lv_icmp_ne (tgt := 123) hx hb dX0_done_114 (by decide) (fun c_9 => ?_) (fun c_9 => ?_)
            · refine lv_iconst (v := nI (1)) hx hb dX0_done_123 (by decide) ?_
              refine lv_goto (tgt := 128) hx hb dX0_done_124 (by decide) ?_
              refine lv_iand hx hb dX0_done_128 ?_
              refine lv_tope (y := nI (0)) (by decide) ?_
              refine lv_istore_n (lv' := [(3, .int (nI (0))), (0, .ref st), (1, .int (nI (112))), (2, .ref nb)]) hx hb dX0_done_129 rfl hl (by decide) rfl (fun ls hl => ?_)
              refine lv_iload_n hx hb dX0_done_130 rfl (lv_at hl 0 rfl) ?_
              refine lv_if_ne (tgt := 144) hx hb dX0_done_131 (by decide) (fun c_10 => ?_) (fun c_10 => ?_)
              · exact absurd c_10 (by decide)
              · refine z_newM (D := D) (ci := 5) (fs := [.null, .null, .null, .null, .null, .int 0, .int 0]) (C := RX5) (T := TX5) (N := 7) hx hb hts in_X5 tyX5 tyX5_ok hown (hts _ q303) (hts _ q555) (hts _ q78) hK hP hD hS hA rfl (fun j hj => by match j, hj with | 0, _ => rfl | 1, _ => rfl | 2, _ => rfl | 3, _ => rfl | 4, _ => rfl | 5, _ => rfl | 6, _ => rfl | j + 7, hj => exact absurd hj (by omega)) (by first | exact Nat.le_of_ble_eq_true rfl | (show _ ≤ _; simp only [headSpec]; omega)) (by first | exact Nat.le_of_ble_eq_true rfl | (show _ ≤ _; simp only [headSpec]; omega)) dX0_done_134 (fun q1 H hP hD hS hM9 => ?_)
                have hP : va_P D vwCl [(st, .inr (1, [.ref jn, .ref sl, .ref sa, .ref se, .int (f 1), .int (f 2), .int (f 3), .int (f 4), .int (f 5), .int (f 6)])), (jn, .inr (2, [.ref al])), (al, .inr (9, [.int mc, .ref ae, .int (nI (rN f))])), (sl, .inl (dA 0, 3, .inl (slF f))), (sa, .inl (dA 4, 2, .inr (.inr (.inr (.inr h))))), (se, .inl (dA 0, 2, .inl (seF f))), (s0, .inr (3, [.int (nI (rcN f 0)), .int (nI (apN f 0)), .ref b0, .int (nI (acN f 0))])), (b0, .inr (10, [.ref w0, .int (nI (uOf W0)), .int sk0])), (w0, .inl (dA 1, 2, .inr (.inl (lwd W0)))), (s1, .inr (3, [.int (nI (rcN f 1)), .int (nI (apN f 1)), .ref b1, .int (nI (acN f 1))])), (b1, .inr (10, [.ref w1, .int (nI (uOf W1)), .int sk1])), (w1, .inl (dA 1, 2, .inr (.inl (lwd W1)))), (xq, xe), (q1, .inr (5, [.null, .null, .null, .null, .null, .int 0, .int 0]))] H := hP
                have hD : va_D A [(st, .inr (1, [.ref jn, .ref sl, .ref sa, .ref se, .int (f 1), .int (f 2), .int (f 3), .int (f 4), .int (f 5), .int (f 6)])), (jn, .inr (2, [.ref al])), (al, .inr (9, [.int mc, .ref ae, .int (nI (rN f))])), (sl, .inl (dA 0, 3, .inl (slF f))), (sa, .inl (dA 4, 2, .inr (.inr (.inr (.inr h))))), (se, .inl (dA 0, 2, .inl (seF f))), (s0, .inr (3, [.int (nI (rcN f 0)), .int (nI (apN f 0)), .ref b0, .int (nI (acN f 0))])), (b0, .inr (10, [.ref w0, .int (nI (uOf W0)), .int sk0])), (w0, .inl (dA 1, 2, .inr (.inl (lwd W0)))), (s1, .inr (3, [.int (nI (rcN f 1)), .int (nI (apN f 1)), .ref b1, .int (nI (acN f 1))])), (b1, .inr (10, [.ref w1, .int (nI (uOf W1)), .int sk1])), (w1, .inl (dA 1, 2, .inr (.inl (lwd W1)))), (xq, xe), (q1, .inr (5, [.null, .null, .null, .null, .null, .int 0, .int 0]))] := hD
                refine lv_dup hx hb dX0_done_137 rfl ?_
                refine lv_ldc (v := (-1000001)) hx hb hown (hts _ q592) dX0_done_138 ?_
                have hDc := (hD.sub (ws' := [(q1, .inr (5, [.null, .null, .null, .null, .null, .int 0, .int 0]))]) [13] (by decide) rfl).self (sz := H.size)
                have hFc := va_free (wc := [(q1, .inr (5, [.null, .null, .null, .null, .null, .int 0, .int 0]))]) hD hS hA [13] rfl
                refine z_cIv (As := [.int (-1000001)]) (rest := [.ref q1]) ⟨hx, hb, hml, hown, hts⟩ (mX5_init l D dA ad (va_A [(q1, .inr (5, [.null, .null, .null, .null, .null, .int 0, .int 0]))] H.size) H.size q1 (-1000001) (fun _ h => Or.inr h) (hstr) hDc) (cwI 1 hts (lw_meth q595) rfl rfl rfl (hts _ q78) (hts _ q593) (hts _ q594) rfl (by decide +kernel) ⟨Nat.le_of_ble_eq_true rfl, Nat.le_of_ble_eq_true rfl⟩) hC hS (hFc) ⟨(hP.sub (ws' := [(q1, .inr (5, [.null, .null, .null, .null, .null, .int 0, .int 0]))]) [13] rfl), hM9⟩ rfl rfl hl.1 (Nat.le_of_ble_eq_true rfl) dX0_done_140 ⟨by first | exact Nat.le_of_ble_eq_true rfl | (show _ ≤ _; simp only [headSpec]; omega), by first | exact Nat.le_of_ble_eq_true rfl | (show _ ≤ _; simp only [headSpec]; omega)⟩ (fun H locs hQ hF hS => ?_)
                obtain ⟨ru_12, rs_13, hQ, hP1, hD1⟩ := hQ
                obtain ⟨hP, hD⟩ := va_join (wr := [(st, .inr (1, [.ref jn, .ref sl, .ref sa, .ref se, .int (f 1), .int (f 2), .int (f 3), .int (f 4), .int (f 5), .int (f 6)])), (jn, .inr (2, [.ref al])), (al, .inr (9, [.int mc, .ref ae, .int (nI (rN f))])), (sl, .inl (dA 0, 3, .inl (slF f))), (sa, .inl (dA 4, 2, .inr (.inr (.inr (.inr h))))), (se, .inl (dA 0, 2, .inl (seF f))), (s0, .inr (3, [.int (nI (rcN f 0)), .int (nI (apN f 0)), .ref b0, .int (nI (acN f 0))])), (b0, .inr (10, [.ref w0, .int (nI (uOf W0)), .int sk0])), (w0, .inl (dA 1, 2, .inr (.inl (lwd W0)))), (s1, .inr (3, [.int (nI (rcN f 1)), .int (nI (apN f 1)), .ref b1, .int (nI (acN f 1))])), (b1, .inr (10, [.ref w1, .int (nI (uOf W1)), .int sk1])), (w1, .inl (dA 1, 2, .inr (.inl (lwd W1)))), (xq, xe)]) (w1 := [(q1, .inr (5, [.ref q1, va_rf ru_12, va_rf rs_13, .ref (ad (10 + 1)), .null, .int 0, .int (-1000001)]))]) hP hD [13] [0, 1, 2, 3, 4, 5, 6, 7, 8, 9, 10, 11, 12] rfl rfl (by decide) (by decide) hF.2 hFc hP1 hD1
                have hP : va_P D vwCl [(st, .inr (1, [.ref jn, .ref sl, .ref sa, .ref se, .int (f 1), .int (f 2), .int (f 3), .int (f 4), .int (f 5), .int (f 6)])), (jn, .inr (2, [.ref al])), (al, .inr (9, [.int mc, .ref ae, .int (nI (rN f))])), (sl, .inl (dA 0, 3, .inl (slF f))), (sa, .inl (dA 4, 2, .inr (.inr (.inr (.inr h))))), (se, .inl (dA 0, 2, .inl (seF f))), (s0, .inr (3, [.int (nI (rcN f 0)), .int (nI (apN f 0)), .ref b0, .int (nI (acN f 0))])), (b0, .inr (10, [.ref w0, .int (nI (uOf W0)), .int sk0])), (w0, .inl (dA 1, 2, .inr (.inl (lwd W0)))), (s1, .inr (3, [.int (nI (rcN f 1)), .int (nI (apN f 1)), .ref b1, .int (nI (acN f 1))])), (b1, .inr (10, [.ref w1, .int (nI (uOf W1)), .int sk1])), (w1, .inl (dA 1, 2, .inr (.inl (lwd W1)))), (xq, xe), (q1, .inr (5, [.ref q1, va_rf ru_12, va_rf rs_13, .ref (ad (10 + 1)), .null, .int 0, .int (-1000001)]))] H := hP
                have hD : va_D A [(st, .inr (1, [.ref jn, .ref sl, .ref sa, .ref se, .int (f 1), .int (f 2), .int (f 3), .int (f 4), .int (f 5), .int (f 6)])), (jn, .inr (2, [.ref al])), (al, .inr (9, [.int mc, .ref ae, .int (nI (rN f))])), (sl, .inl (dA 0, 3, .inl (slF f))), (sa, .inl (dA 4, 2, .inr (.inr (.inr (.inr h))))), (se, .inl (dA 0, 2, .inl (seF f))), (s0, .inr (3, [.int (nI (rcN f 0)), .int (nI (apN f 0)), .ref b0, .int (nI (acN f 0))])), (b0, .inr (10, [.ref w0, .int (nI (uOf W0)), .int sk0])), (w0, .inl (dA 1, 2, .inr (.inl (lwd W0)))), (s1, .inr (3, [.int (nI (rcN f 1)), .int (nI (apN f 1)), .ref b1, .int (nI (acN f 1))])), (b1, .inr (10, [.ref w1, .int (nI (uOf W1)), .int sk1])), (w1, .inl (dA 1, 2, .inr (.inl (lwd W1)))), (xq, xe), (q1, .inr (5, [.ref q1, va_rf ru_12, va_rf rs_13, .ref (ad (10 + 1)), .null, .int 0, .int (-1000001)]))] := hD
                refine z_athrow hx hb dX0_done_143 ?_
                have hX9 : RfP D (-1000001) q1 H := ⟨_, _, _, _, _, _, hP 13 _ rfl⟩
                have e9 : oPut f (nh 0) (nh 1) (nh 2) = (false, cIA, f) := by unfold oPut; rw [if_neg c_7]; rfl
                exact z_outR htab hlocks hC.K hS hX9 ⟨_, e9, hX9⟩ (by omega) (by omega)
            · exact absurd c_9 (by decide)
          · exact absurd c_8 (by decide)
        · have c_7 := bI_1.1 c_7
          refine lv_aload_n hx hb dX0_done_61 rfl (lv_at hl 3 rfl) ?_
          refine lv_iconst (v := nI (2)) hx hb dX0_done_62 (by decide) ?_
          refine va_iald hx hb hK (hZ.at hS) 0 0 rfl rfl (vp_in_nI (by omega) (by omega)) dX0_done_63 ?_
          refine lv_tope (y := nh 2) (by rw [nI_clamp (by omega)]) ?_
          refine lv_i2l (v := (nh 2).toInt64) hx hb dX0_done_64 (rfl) ?_
          refine lv_lconst (v := lN (0)) hx hb dX0_done_65 (by decide) ?_
          refine lv_ldc2 (v := lN (999)) hx hb hown (hts _ q553) dX0_done_66 ?_
          refine z_cSi (As := [.long ((nh 2).toInt64), .long (lN (0)), .long (lN (999))]) (rest := [.int (bI (nI 0 ≤ (nh 0) ∧ (nh 0) ≤ nI 2))]) ⟨hx, hb, hml, hown, hts⟩ (mX0_isBetween l D dA ad H.size ((nh 2).toInt64) (lN (0)) (lN (999))) (va_cwS 3 hts (lw_S q457 q458 q54 q459) rfl rfl rfl (by decide +kernel) ⟨Nat.le_of_ble_eq_true rfl, Nat.le_of_ble_eq_true rfl⟩) hC hS (fun _ h => hA _ (Nat.le_trans hS.1 h)) trivial rfl rfl hl.1 (Nat.le_of_ble_eq_true rfl) dX0_done_69 ⟨by first | exact Nat.le_of_ble_eq_true rfl | (show _ ≤ _; simp only [headSpec]; omega), by first | exact Nat.le_of_ble_eq_true rfl | (show _ ≤ _; simp only [headSpec]; omega)⟩ (fun r_14 H locs hQ hF hS => ?_)
          have hP := va_P.ro hF hP
          obtain rfl : bI ((lN (0)) ≤ ((nh 2).toInt64) ∧ ((nh 2).toInt64) ≤ (lN (999))) = r_14 := hQ.symm
          refine lv_tope (y := bI (nI 0 ≤ nh 2 ∧ nh 2 ≤ nI 999)) (btw_ok (by decide) (by decide)) ?_
          refine lv_if_eq (tgt := 79) hx hb dX0_done_72 (by decide) (fun c_15 => ?_) (fun c_15 => ?_)
          · have c_15 := bI_0.1 c_15
            refine lv_iconst (v := nI (0)) hx hb dX0_done_79 (by decide) ?_
            refine lv_iand hx hb dX0_done_80 ?_
            refine lv_tope (y := nI (0)) (bI_and0) ?_
            refine lv_istore_n (lv' := [(3, .int (nI (0))), (0, .ref st), (1, .int (nI (112))), (2, .ref nb)]) hx hb dX0_done_81 rfl hl (by decide) rfl (fun ls hl => ?_)
            refine lv_iload_n hx hb dX0_done_82 rfl (lv_at hl 0 rfl) ?_
            refine lv_iload_n hx hb dX0_done_83 rfl (lv_at hl 2 rfl) ?_
            refine lv_bipush (v := nI (115)) hx hb dX0_done_84 (by decide) ?_
            refine lv_icmp_ne (tgt := 103) hx hb dX0_done_86 (by decide) (fun c_16 => ?_) (fun c_16 => ?_)
            · refine lv_iconst (v := nI (1)) hx hb dX0_done_103 (by decide) ?_
              refine lv_goto (tgt := 108) hx hb dX0_done_104 (by decide) ?_
              refine lv_iand hx hb dX0_done_108 ?_
              refine lv_tope (y := nI (0)) (by decide) ?_
              refine lv_istore_n (lv' := [(3, .int (nI (0))), (0, .ref st), (1, .int (nI (112))), (2, .ref nb)]) hx hb dX0_done_109 rfl hl (by decide) rfl (fun ls hl => ?_)
              refine lv_iload_n hx hb dX0_done_110 rfl (lv_at hl 0 rfl) ?_
              refine lv_iload_n hx hb dX0_done_111 rfl (lv_at hl 2 rfl) ?_
              refine lv_bipush (v := nI (108)) hx hb dX0_done_112 (by decide) ?_
              refine lv_icmp_ne (tgt := 123) hx hb dX0_done_114 (by decide) (fun c_17 => ?_) (fun c_17 => ?_)
              · refine lv_iconst (v := nI (1)) hx hb dX0_done_123 (by decide) ?_
                refine lv_goto (tgt := 128) hx hb dX0_done_124 (by decide) ?_
                refine lv_iand hx hb dX0_done_128 ?_
                refine lv_tope (y := nI (0)) (by decide) ?_
                refine lv_istore_n (lv' := [(3, .int (nI (0))), (0, .ref st), (1, .int (nI (112))), (2, .ref nb)]) hx hb dX0_done_129 rfl hl (by decide) rfl (fun ls hl => ?_)
                refine lv_iload_n hx hb dX0_done_130 rfl (lv_at hl 0 rfl) ?_
                refine lv_if_ne (tgt := 144) hx hb dX0_done_131 (by decide) (fun c_18 => ?_) (fun c_18 => ?_)
                · exact absurd c_18 (by decide)
                · refine z_newM (D := D) (ci := 5) (fs := [.null, .null, .null, .null, .null, .int 0, .int 0]) (C := RX5) (T := TX5) (N := 7) hx hb hts in_X5 tyX5 tyX5_ok hown (hts _ q303) (hts _ q555) (hts _ q78) hK hP hD hS hA rfl (fun j hj => by match j, hj with | 0, _ => rfl | 1, _ => rfl | 2, _ => rfl | 3, _ => rfl | 4, _ => rfl | 5, _ => rfl | 6, _ => rfl | j + 7, hj => exact absurd hj (by omega)) (by first | exact Nat.le_of_ble_eq_true rfl | (show _ ≤ _; simp only [headSpec]; omega)) (by first | exact Nat.le_of_ble_eq_true rfl | (show _ ≤ _; simp only [headSpec]; omega)) dX0_done_134 (fun q1 H hP hD hS hM9 => ?_)
                  have hP : va_P D vwCl [(st, .inr (1, [.ref jn, .ref sl, .ref sa, .ref se, .int (f 1), .int (f 2), .int (f 3), .int (f 4), .int (f 5), .int (f 6)])), (jn, .inr (2, [.ref al])), (al, .inr (9, [.int mc, .ref ae, .int (nI (rN f))])), (sl, .inl (dA 0, 3, .inl (slF f))), (sa, .inl (dA 4, 2, .inr (.inr (.inr (.inr h))))), (se, .inl (dA 0, 2, .inl (seF f))), (s0, .inr (3, [.int (nI (rcN f 0)), .int (nI (apN f 0)), .ref b0, .int (nI (acN f 0))])), (b0, .inr (10, [.ref w0, .int (nI (uOf W0)), .int sk0])), (w0, .inl (dA 1, 2, .inr (.inl (lwd W0)))), (s1, .inr (3, [.int (nI (rcN f 1)), .int (nI (apN f 1)), .ref b1, .int (nI (acN f 1))])), (b1, .inr (10, [.ref w1, .int (nI (uOf W1)), .int sk1])), (w1, .inl (dA 1, 2, .inr (.inl (lwd W1)))), (xq, xe), (q1, .inr (5, [.null, .null, .null, .null, .null, .int 0, .int 0]))] H := hP
                  have hD : va_D A [(st, .inr (1, [.ref jn, .ref sl, .ref sa, .ref se, .int (f 1), .int (f 2), .int (f 3), .int (f 4), .int (f 5), .int (f 6)])), (jn, .inr (2, [.ref al])), (al, .inr (9, [.int mc, .ref ae, .int (nI (rN f))])), (sl, .inl (dA 0, 3, .inl (slF f))), (sa, .inl (dA 4, 2, .inr (.inr (.inr (.inr h))))), (se, .inl (dA 0, 2, .inl (seF f))), (s0, .inr (3, [.int (nI (rcN f 0)), .int (nI (apN f 0)), .ref b0, .int (nI (acN f 0))])), (b0, .inr (10, [.ref w0, .int (nI (uOf W0)), .int sk0])), (w0, .inl (dA 1, 2, .inr (.inl (lwd W0)))), (s1, .inr (3, [.int (nI (rcN f 1)), .int (nI (apN f 1)), .ref b1, .int (nI (acN f 1))])), (b1, .inr (10, [.ref w1, .int (nI (uOf W1)), .int sk1])), (w1, .inl (dA 1, 2, .inr (.inl (lwd W1)))), (xq, xe), (q1, .inr (5, [.null, .null, .null, .null, .null, .int 0, .int 0]))] := hD
                  refine lv_dup hx hb dX0_done_137 rfl ?_
                  refine lv_ldc (v := (-1000001)) hx hb hown (hts _ q592) dX0_done_138 ?_
                  have hDc := (hD.sub (ws' := [(q1, .inr (5, [.null, .null, .null, .null, .null, .int 0, .int 0]))]) [13] (by decide) rfl).self (sz := H.size)
                  have hFc := va_free (wc := [(q1, .inr (5, [.null, .null, .null, .null, .null, .int 0, .int 0]))]) hD hS hA [13] rfl
                  refine z_cIv (As := [.int (-1000001)]) (rest := [.ref q1]) ⟨hx, hb, hml, hown, hts⟩ (mX5_init l D dA ad (va_A [(q1, .inr (5, [.null, .null, .null, .null, .null, .int 0, .int 0]))] H.size) H.size q1 (-1000001) (fun _ h => Or.inr h) (hstr) hDc) (cwI 1 hts (lw_meth q595) rfl rfl rfl (hts _ q78) (hts _ q593) (hts _ q594) rfl (by decide +kernel) ⟨Nat.le_of_ble_eq_true rfl, Nat.le_of_ble_eq_true rfl⟩) hC hS (hFc) ⟨(hP.sub (ws' := [(q1, .inr (5, [.null, .null, .null, .null, .null, .int 0, .int 0]))]) [13] rfl), hM9⟩ rfl rfl hl.1 (Nat.le_of_ble_eq_true rfl) dX0_done_140 ⟨by first | exact Nat.le_of_ble_eq_true rfl | (show _ ≤ _; simp only [headSpec]; omega), by first | exact Nat.le_of_ble_eq_true rfl | (show _ ≤ _; simp only [headSpec]; omega)⟩ (fun H locs hQ hF hS => ?_)
                  obtain ⟨ru_20, rs_21, hQ, hP1, hD1⟩ := hQ
                  obtain ⟨hP, hD⟩ := va_join (wr := [(st, .inr (1, [.ref jn, .ref sl, .ref sa, .ref se, .int (f 1), .int (f 2), .int (f 3), .int (f 4), .int (f 5), .int (f 6)])), (jn, .inr (2, [.ref al])), (al, .inr (9, [.int mc, .ref ae, .int (nI (rN f))])), (sl, .inl (dA 0, 3, .inl (slF f))), (sa, .inl (dA 4, 2, .inr (.inr (.inr (.inr h))))), (se, .inl (dA 0, 2, .inl (seF f))), (s0, .inr (3, [.int (nI (rcN f 0)), .int (nI (apN f 0)), .ref b0, .int (nI (acN f 0))])), (b0, .inr (10, [.ref w0, .int (nI (uOf W0)), .int sk0])), (w0, .inl (dA 1, 2, .inr (.inl (lwd W0)))), (s1, .inr (3, [.int (nI (rcN f 1)), .int (nI (apN f 1)), .ref b1, .int (nI (acN f 1))])), (b1, .inr (10, [.ref w1, .int (nI (uOf W1)), .int sk1])), (w1, .inl (dA 1, 2, .inr (.inl (lwd W1)))), (xq, xe)]) (w1 := [(q1, .inr (5, [.ref q1, va_rf ru_20, va_rf rs_21, .ref (ad (10 + 1)), .null, .int 0, .int (-1000001)]))]) hP hD [13] [0, 1, 2, 3, 4, 5, 6, 7, 8, 9, 10, 11, 12] rfl rfl (by decide) (by decide) hF.2 hFc hP1 hD1
                  have hP : va_P D vwCl [(st, .inr (1, [.ref jn, .ref sl, .ref sa, .ref se, .int (f 1), .int (f 2), .int (f 3), .int (f 4), .int (f 5), .int (f 6)])), (jn, .inr (2, [.ref al])), (al, .inr (9, [.int mc, .ref ae, .int (nI (rN f))])), (sl, .inl (dA 0, 3, .inl (slF f))), (sa, .inl (dA 4, 2, .inr (.inr (.inr (.inr h))))), (se, .inl (dA 0, 2, .inl (seF f))), (s0, .inr (3, [.int (nI (rcN f 0)), .int (nI (apN f 0)), .ref b0, .int (nI (acN f 0))])), (b0, .inr (10, [.ref w0, .int (nI (uOf W0)), .int sk0])), (w0, .inl (dA 1, 2, .inr (.inl (lwd W0)))), (s1, .inr (3, [.int (nI (rcN f 1)), .int (nI (apN f 1)), .ref b1, .int (nI (acN f 1))])), (b1, .inr (10, [.ref w1, .int (nI (uOf W1)), .int sk1])), (w1, .inl (dA 1, 2, .inr (.inl (lwd W1)))), (xq, xe), (q1, .inr (5, [.ref q1, va_rf ru_20, va_rf rs_21, .ref (ad (10 + 1)), .null, .int 0, .int (-1000001)]))] H := hP
                  have hD : va_D A [(st, .inr (1, [.ref jn, .ref sl, .ref sa, .ref se, .int (f 1), .int (f 2), .int (f 3), .int (f 4), .int (f 5), .int (f 6)])), (jn, .inr (2, [.ref al])), (al, .inr (9, [.int mc, .ref ae, .int (nI (rN f))])), (sl, .inl (dA 0, 3, .inl (slF f))), (sa, .inl (dA 4, 2, .inr (.inr (.inr (.inr h))))), (se, .inl (dA 0, 2, .inl (seF f))), (s0, .inr (3, [.int (nI (rcN f 0)), .int (nI (apN f 0)), .ref b0, .int (nI (acN f 0))])), (b0, .inr (10, [.ref w0, .int (nI (uOf W0)), .int sk0])), (w0, .inl (dA 1, 2, .inr (.inl (lwd W0)))), (s1, .inr (3, [.int (nI (rcN f 1)), .int (nI (apN f 1)), .ref b1, .int (nI (acN f 1))])), (b1, .inr (10, [.ref w1, .int (nI (uOf W1)), .int sk1])), (w1, .inl (dA 1, 2, .inr (.inl (lwd W1)))), (xq, xe), (q1, .inr (5, [.ref q1, va_rf ru_20, va_rf rs_21, .ref (ad (10 + 1)), .null, .int 0, .int (-1000001)]))] := hD
                  refine z_athrow hx hb dX0_done_143 ?_
                  have hX9 : RfP D (-1000001) q1 H := ⟨_, _, _, _, _, _, hP 13 _ rfl⟩
                  have e9 : oPut f (nh 0) (nh 1) (nh 2) = (false, cIA, f) := by unfold oPut; rw [if_pos c_7, if_neg c_15]; rfl
                  exact z_outR htab hlocks hC.K hS hX9 ⟨_, e9, hX9⟩ (by omega) (by omega)
              · exact absurd c_17 (by decide)
            · exact absurd c_16 (by decide)
          · have c_15 := bI_1.1 c_15
            refine lv_iconst (v := nI (1)) hx hb dX0_done_75 (by decide) ?_
            refine lv_goto (tgt := 80) hx hb dX0_done_76 (by decide) ?_
            refine lv_iand hx hb dX0_done_80 ?_
            refine lv_tope (y := bI (nI 0 ≤ (nh 0) ∧ (nh 0) ≤ nI 2)) (bI_and1) ?_
            refine lv_istore_n (lv' := [(3, .int (bI (nI 0 ≤ (nh 0) ∧ (nh 0) ≤ nI 2))), (0, .ref st), (1, .int (nI (112))), (2, .ref nb)]) hx hb dX0_done_81 rfl hl (by decide) rfl (fun ls hl => ?_)
            refine lv_iload_n hx hb dX0_done_82 rfl (lv_at hl 0 rfl) ?_
            refine lv_iload_n hx hb dX0_done_83 rfl (lv_at hl 2 rfl) ?_
            refine lv_bipush (v := nI (115)) hx hb dX0_done_84 (by decide) ?_
            refine lv_icmp_ne (tgt := 103) hx hb dX0_done_86 (by decide) (fun c_22 => ?_) (fun c_22 => ?_)
            · refine lv_iconst (v := nI (1)) hx hb dX0_done_103 (by decide) ?_
              refine lv_goto (tgt := 108) hx hb dX0_done_104 (by decide) ?_
              refine lv_iand hx hb dX0_done_108 ?_
              refine lv_tope (y := bI (nI 0 ≤ (nh 0) ∧ (nh 0) ≤ nI 2)) (bI_and1) ?_
              refine lv_istore_n (lv' := [(3, .int (bI (nI 0 ≤ (nh 0) ∧ (nh 0) ≤ nI 2))), (0, .ref st), (1, .int (nI (112))), (2, .ref nb)]) hx hb dX0_done_109 rfl hl (by decide) rfl (fun ls hl => ?_)
              refine lv_iload_n hx hb dX0_done_110 rfl (lv_at hl 0 rfl) ?_
              refine lv_iload_n hx hb dX0_done_111 rfl (lv_at hl 2 rfl) ?_
              refine lv_bipush (v := nI (108)) hx hb dX0_done_112 (by decide) ?_
              refine lv_icmp_ne (tgt := 123) hx hb dX0_done_114 (by decide) (fun c_23 => ?_) (fun c_23 => ?_)
              · refine lv_iconst (v := nI (1)) hx hb dX0_done_123 (by decide) ?_
                refine lv_goto (tgt := 128) hx hb dX0_done_124 (by decide) ?_
                refine lv_iand hx hb dX0_done_128 ?_
                refine lv_tope (y := bI (nI 0 ≤ (nh 0) ∧ (nh 0) ≤ nI 2)) (bI_and1) ?_
                refine lv_istore_n (lv' := [(3, .int (bI (nI 0 ≤ (nh 0) ∧ (nh 0) ≤ nI 2))), (0, .ref st), (1, .int (nI (112))), (2, .ref nb)]) hx hb dX0_done_129 rfl hl (by decide) rfl (fun ls hl => ?_)
                refine lv_iload_n hx hb dX0_done_130 rfl (lv_at hl 0 rfl) ?_
                refine lv_if_ne (tgt := 144) hx hb dX0_done_131 (by decide) (fun c_24 => ?_) (fun c_24 => ?_)
                · have c_24 := bI_1.1 c_24
                  obtain ⟨j, hj, ej⟩ := zr_of (k := nh 0) (N := 2) c_24 (by decide)
                  refine lv_iload_n hx hb dX0_done_144 rfl (lv_at hl 2 rfl) ?_
                  refine lv_tableIn (off := 99) (tgt := 244) hx hb dX0_done_145 (by decide) (by decide) (by decide) (by decide) ?_
                  refine lv_aload_n hx hb dX0_done_244 rfl (lv_at hl 1 rfl) ?_
                  refine lv_aload_n hx hb dX0_done_245 rfl (lv_at hl 3 rfl) ?_
                  refine lv_iconst (v := nI (0)) hx hb dX0_done_246 (by decide) ?_
                  refine va_iald hx hb hK (hZ.at hS) 0 0 rfl rfl (vp_in_nI (by omega) (by omega)) dX0_done_247 ?_
                  refine lv_tope (y := nh 0) (by rw [nI_clamp (by omega)]) ?_
                  refine lv_tope (y := nI (j)) (ej) ?_
                  refine lv_aload_n hx hb dX0_done_248 rfl (lv_at hl 3 rfl) ?_
                  refine lv_iconst (v := nI (1)) hx hb dX0_done_249 (by decide) ?_
                  refine va_iald hx hb hK (hZ.at hS) 0 0 rfl rfl (vp_in_nI (by omega) (by omega)) dX0_done_250 ?_
                  refine lv_tope (y := nh 1) (by rw [nI_clamp (by omega)]) ?_
                  refine lv_aload_n hx hb dX0_done_251 rfl (lv_at hl 3 rfl) ?_
                  refine lv_iconst (v := nI (2)) hx hb dX0_done_252 (by decide) ?_
                  refine va_iald hx hb hK (hZ.at hS) 0 0 rfl rfl (vp_in_nI (by omega) (by omega)) dX0_done_253 ?_
                  refine lv_tope (y := nh 2) (by rw [nI_clamp (by omega)]) ?_
                  have hDc := (hD.sub (ws' := [(st, .inr (1, [.ref jn, .ref sl, .ref sa, .ref se, .int (f 1), .int (f 2), .int (f 3), .int (f 4), .int (f 5), .int (f 6)])), (sl, .inl (dA 0, 3, .inl (slF f))), (jn, .inr (2, [.ref al])), (al, .inr (9, [.int mc, .ref ae, .int (nI (rN f))])), (xq, xe)]) [0, 3, 1, 2, 12] (by decide) rfl).self (sz := H.size)
                  have hFc := va_free (wc := [(st, .inr (1, [.ref jn, .ref sl, .ref sa, .ref se, .int (f 1), .int (f 2), .int (f 3), .int (f 4), .int (f 5), .int (f 6)])), (sl, .inl (dA 0, 3, .inl (slF f))), (jn, .inr (2, [.ref al])), (al, .inr (9, [.int mc, .ref ae, .int (nI (rN f))])), (xq, xe)]) hD hS hA [0, 3, 1, 2, 12] rfl
                  refine z_xVi (As := [.int (nI (j)), .int (nh 1), .int (nh 2)]) (rest := []) ⟨hx, hb, hml, hown, hts⟩ (mX1_puts l D dA ad (va_A [(st, .inr (1, [.ref jn, .ref sl, .ref sa, .ref se, .int (f 1), .int (f 2), .int (f 3), .int (f 4), .int (f 5), .int (f 6)])), (sl, .inl (dA 0, 3, .inl (slF f))), (jn, .inr (2, [.ref al])), (al, .inr (9, [.int mc, .ref ae, .int (nI (rN f))])), (xq, xe)] H.size) H.size st jn sl sa se (f 1) (f 2) (f 3) (f 4) (f 5) (f 6) (slF f) al mc ae (rN f) f xq xe g Bx j (nh 1) (nh 2) (fun _ h => Or.inr h) (by omega) (by omega) (hLT) (fun q z => Nat.lt_of_lt_of_le (hBx q z) hS.1) (hstr) hDc) (cwV 3 hts (lw_V q628 q629 q630 q55 q631) rfl rfl rfl (by decide +kernel) ⟨Nat.le_of_ble_eq_true rfl, Nat.le_of_ble_eq_true rfl⟩) hC hS (hFc) ⟨(hP.sub (ws' := [(st, .inr (1, [.ref jn, .ref sl, .ref sa, .ref se, .int (f 1), .int (f 2), .int (f 3), .int (f 4), .int (f 5), .int (f 6)])), (sl, .inl (dA 0, 3, .inl (slF f))), (jn, .inr (2, [.ref al])), (al, .inr (9, [.int mc, .ref ae, .int (nI (rN f))])), (xq, xe)]) [0, 3, 1, 2, 12] rfl), hP2.keptAB hS hFc⟩ (va_recv hK hP (ci := 1) (q0 := 0) rfl rfl) rfl rfl hl.1 (Nat.le_of_ble_eq_true rfl) dX0_done_254 ⟨by first | exact Nat.le_of_ble_eq_true rfl | (show _ ≤ _; simp only [headSpec]; omega), by first | exact Nat.le_of_ble_eq_true rfl | (show _ ≤ _; simp only [headSpec]; omega)⟩ (fun q9 H locs hX9 hF hS => ?_) (fun r_25 H locs hQ hF hS => ?_)
                  · have e9 : oPut f (nh 0) (nh 1) (nh 2) = (false, _, f) := (by unfold oPut; rw [if_pos c_7, if_pos c_15]; rw [ej]; exact wr_f hB hj hX9.1)
                    exact z_outR htab hlocks hC.K hS hX9.2 ⟨_, e9, hX9.2⟩ (by omega) (by omega)
                  obtain ⟨mcz, aez, xqz, xez, gz, hQ, hq1, hq2, hq3, hq4, hP1, hD1⟩ := hQ
                  obtain ⟨hP, hD⟩ := va_join (wr := [(sa, .inl (dA 4, 2, .inr (.inr (.inr (.inr h))))), (se, .inl (dA 0, 2, .inl (seF f))), (s0, .inr (3, [.int (nI (rcN f 0)), .int (nI (apN f 0)), .ref b0, .int (nI (acN f 0))])), (b0, .inr (10, [.ref w0, .int (nI (uOf W0)), .int sk0])), (w0, .inl (dA 1, 2, .inr (.inl (lwd W0)))), (s1, .inr (3, [.int (nI (rcN f 1)), .int (nI (apN f 1)), .ref b1, .int (nI (acN f 1))])), (b1, .inr (10, [.ref w1, .int (nI (uOf W1)), .int sk1])), (w1, .inl (dA 1, 2, .inr (.inl (lwd W1))))]) (w1 := [(st, .inr (1, [.ref jn, .ref sl, .ref sa, .ref se, .int (f 1), .int (f 2), .int (f 3), .int (f 4), .int (f 5), .int (f 6)])), (sl, .inl (dA 0, 3, .inl (slF f))), (jn, .inr (2, [.ref al])), (al, .inr (9, [.int mcz, .ref aez, .int (nI ((rN f) + 1))])), (xqz, xez)]) hP hD [0, 3, 1, 2, 12] [4, 5, 6, 7, 8, 9, 10, 11] rfl rfl (by decide) (by decide) hF.2 hFc hP1 hD1
                  have hP : va_P D vwCl [(sa, .inl (dA 4, 2, .inr (.inr (.inr (.inr h))))), (se, .inl (dA 0, 2, .inl (seF f))), (s0, .inr (3, [.int (nI (rcN f 0)), .int (nI (apN f 0)), .ref b0, .int (nI (acN f 0))])), (b0, .inr (10, [.ref w0, .int (nI (uOf W0)), .int sk0])), (w0, .inl (dA 1, 2, .inr (.inl (lwd W0)))), (s1, .inr (3, [.int (nI (rcN f 1)), .int (nI (apN f 1)), .ref b1, .int (nI (acN f 1))])), (b1, .inr (10, [.ref w1, .int (nI (uOf W1)), .int sk1])), (w1, .inl (dA 1, 2, .inr (.inl (lwd W1)))), (st, .inr (1, [.ref jn, .ref sl, .ref sa, .ref se, .int (f 1), .int (f 2), .int (f 3), .int (f 4), .int (f 5), .int (f 6)])), (sl, .inl (dA 0, 3, .inl (slF f))), (jn, .inr (2, [.ref al])), (al, .inr (9, [.int mcz, .ref aez, .int (nI ((rN f) + 1))])), (xqz, xez)] H := hP
                  have hD : va_D A [(sa, .inl (dA 4, 2, .inr (.inr (.inr (.inr h))))), (se, .inl (dA 0, 2, .inl (seF f))), (s0, .inr (3, [.int (nI (rcN f 0)), .int (nI (apN f 0)), .ref b0, .int (nI (acN f 0))])), (b0, .inr (10, [.ref w0, .int (nI (uOf W0)), .int sk0])), (w0, .inl (dA 1, 2, .inr (.inl (lwd W0)))), (s1, .inr (3, [.int (nI (rcN f 1)), .int (nI (apN f 1)), .ref b1, .int (nI (acN f 1))])), (b1, .inr (10, [.ref w1, .int (nI (uOf W1)), .int sk1])), (w1, .inl (dA 1, 2, .inr (.inl (lwd W1)))), (st, .inr (1, [.ref jn, .ref sl, .ref sa, .ref se, .int (f 1), .int (f 2), .int (f 3), .int (f 4), .int (f 5), .int (f 6)])), (sl, .inl (dA 0, 3, .inl (slF f))), (jn, .inr (2, [.ref al])), (al, .inr (9, [.int mcz, .ref aez, .int (nI ((rN f) + 1))])), (xqz, xez)] := hD
                  obtain rfl : nI ((rN f) + 1) = r_25 := hQ.symm
                  exact vx_ret (z_iret (v := nI ((rN f) + 1)) hx hb hr hS (⟨_, mcz, aez, b0, w0, sk0, W0, b1, w1, sk1, W1, xqz, xez, gz, (by unfold oPut; rw [if_pos c_7, if_pos c_15]; rw [ej]; exact wr_t hB hj hq1 hq2), (tr_wr (kind := 0) (key := (nh 1)) (v := (nh 2)) hB hj hq1 (hP.sub [8, 10, 11, 9, 0, 1, 2, 3, 4, 5, 6, 7, 12] rfl) (Or.inl ⟨rfl, rfl⟩) hq3 hq4 (nt_put (by omega) (fun q => hq1 ((slF_n hB (by omega)).2 q))) hW0 hW1 hgp0 hgp1), (hD.sub (ws' := [(st, .inr (1, [.ref jn, .ref sl, .ref sa, .ref se, .int (f 1), .int (f 2), .int (f 3), .int (f 4), .int (f 5), .int (f 6)])), (jn, .inr (2, [.ref al])), (al, .inr (9, [.int mcz, .ref aez, .int (nI ((rN f) + 1))])), (sl, .inl (dA 0, 3, .inl (slF f))), (sa, .inl (dA 4, 2, .inr (.inr (.inr (.inr h))))), (se, .inl (dA 0, 2, .inl (seF f))), (s0, .inr (3, [.int (nI (rcN f 0)), .int (nI (apN f 0)), .ref b0, .int (nI (acN f 0))])), (b0, .inr (10, [.ref w0, .int (nI (uOf W0)), .int sk0])), (w0, .inl (dA 1, 2, .inr (.inl (lwd W0)))), (s1, .inr (3, [.int (nI (rcN f 1)), .int (nI (apN f 1)), .ref b1, .int (nI (acN f 1))])), (b1, .inr (10, [.ref w1, .int (nI (uOf W1)), .int sk1])), (w1, .inl (dA 1, 2, .inr (.inl (lwd W1)))), (xqz, xez)]) [8, 10, 11, 9, 0, 1, 2, 3, 4, 5, 6, 7, 12] (by decide) rfl).via [st, jn, al, sl, sa, se, s0, b0, w0, s1, b1, w1, xqz] rfl rfl⟩) (by omega) (by omega) dX0_done_257)
                · have c_24 := bI_0.1 c_24
                  refine z_newM (D := D) (ci := 5) (fs := [.null, .null, .null, .null, .null, .int 0, .int 0]) (C := RX5) (T := TX5) (N := 7) hx hb hts in_X5 tyX5 tyX5_ok hown (hts _ q303) (hts _ q555) (hts _ q78) hK hP hD hS hA rfl (fun j hj => by match j, hj with | 0, _ => rfl | 1, _ => rfl | 2, _ => rfl | 3, _ => rfl | 4, _ => rfl | 5, _ => rfl | 6, _ => rfl | j + 7, hj => exact absurd hj (by omega)) (by first | exact Nat.le_of_ble_eq_true rfl | (show _ ≤ _; simp only [headSpec]; omega)) (by first | exact Nat.le_of_ble_eq_true rfl | (show _ ≤ _; simp only [headSpec]; omega)) dX0_done_134 (fun q1 H hP hD hS hM9 => ?_)
                  have hP : va_P D vwCl [(st, .inr (1, [.ref jn, .ref sl, .ref sa, .ref se, .int (f 1), .int (f 2), .int (f 3), .int (f 4), .int (f 5), .int (f 6)])), (jn, .inr (2, [.ref al])), (al, .inr (9, [.int mc, .ref ae, .int (nI (rN f))])), (sl, .inl (dA 0, 3, .inl (slF f))), (sa, .inl (dA 4, 2, .inr (.inr (.inr (.inr h))))), (se, .inl (dA 0, 2, .inl (seF f))), (s0, .inr (3, [.int (nI (rcN f 0)), .int (nI (apN f 0)), .ref b0, .int (nI (acN f 0))])), (b0, .inr (10, [.ref w0, .int (nI (uOf W0)), .int sk0])), (w0, .inl (dA 1, 2, .inr (.inl (lwd W0)))), (s1, .inr (3, [.int (nI (rcN f 1)), .int (nI (apN f 1)), .ref b1, .int (nI (acN f 1))])), (b1, .inr (10, [.ref w1, .int (nI (uOf W1)), .int sk1])), (w1, .inl (dA 1, 2, .inr (.inl (lwd W1)))), (xq, xe), (q1, .inr (5, [.null, .null, .null, .null, .null, .int 0, .int 0]))] H := hP
                  have hD : va_D A [(st, .inr (1, [.ref jn, .ref sl, .ref sa, .ref se, .int (f 1), .int (f 2), .int (f 3), .int (f 4), .int (f 5), .int (f 6)])), (jn, .inr (2, [.ref al])), (al, .inr (9, [.int mc, .ref ae, .int (nI (rN f))])), (sl, .inl (dA 0, 3, .inl (slF f))), (sa, .inl (dA 4, 2, .inr (.inr (.inr (.inr h))))), (se, .inl (dA 0, 2, .inl (seF f))), (s0, .inr (3, [.int (nI (rcN f 0)), .int (nI (apN f 0)), .ref b0, .int (nI (acN f 0))])), (b0, .inr (10, [.ref w0, .int (nI (uOf W0)), .int sk0])), (w0, .inl (dA 1, 2, .inr (.inl (lwd W0)))), (s1, .inr (3, [.int (nI (rcN f 1)), .int (nI (apN f 1)), .ref b1, .int (nI (acN f 1))])), (b1, .inr (10, [.ref w1, .int (nI (uOf W1)), .int sk1])), (w1, .inl (dA 1, 2, .inr (.inl (lwd W1)))), (xq, xe), (q1, .inr (5, [.null, .null, .null, .null, .null, .int 0, .int 0]))] := hD
                  refine lv_dup hx hb dX0_done_137 rfl ?_
                  refine lv_ldc (v := (-1000001)) hx hb hown (hts _ q592) dX0_done_138 ?_
                  have hDc := (hD.sub (ws' := [(q1, .inr (5, [.null, .null, .null, .null, .null, .int 0, .int 0]))]) [13] (by decide) rfl).self (sz := H.size)
                  have hFc := va_free (wc := [(q1, .inr (5, [.null, .null, .null, .null, .null, .int 0, .int 0]))]) hD hS hA [13] rfl
                  refine z_cIv (As := [.int (-1000001)]) (rest := [.ref q1]) ⟨hx, hb, hml, hown, hts⟩ (mX5_init l D dA ad (va_A [(q1, .inr (5, [.null, .null, .null, .null, .null, .int 0, .int 0]))] H.size) H.size q1 (-1000001) (fun _ h => Or.inr h) (hstr) hDc) (cwI 1 hts (lw_meth q595) rfl rfl rfl (hts _ q78) (hts _ q593) (hts _ q594) rfl (by decide +kernel) ⟨Nat.le_of_ble_eq_true rfl, Nat.le_of_ble_eq_true rfl⟩) hC hS (hFc) ⟨(hP.sub (ws' := [(q1, .inr (5, [.null, .null, .null, .null, .null, .int 0, .int 0]))]) [13] rfl), hM9⟩ rfl rfl hl.1 (Nat.le_of_ble_eq_true rfl) dX0_done_140 ⟨by first | exact Nat.le_of_ble_eq_true rfl | (show _ ≤ _; simp only [headSpec]; omega), by first | exact Nat.le_of_ble_eq_true rfl | (show _ ≤ _; simp only [headSpec]; omega)⟩ (fun H locs hQ hF hS => ?_)
                  obtain ⟨ru_27, rs_28, hQ, hP1, hD1⟩ := hQ
                  obtain ⟨hP, hD⟩ := va_join (wr := [(st, .inr (1, [.ref jn, .ref sl, .ref sa, .ref se, .int (f 1), .int (f 2), .int (f 3), .int (f 4), .int (f 5), .int (f 6)])), (jn, .inr (2, [.ref al])), (al, .inr (9, [.int mc, .ref ae, .int (nI (rN f))])), (sl, .inl (dA 0, 3, .inl (slF f))), (sa, .inl (dA 4, 2, .inr (.inr (.inr (.inr h))))), (se, .inl (dA 0, 2, .inl (seF f))), (s0, .inr (3, [.int (nI (rcN f 0)), .int (nI (apN f 0)), .ref b0, .int (nI (acN f 0))])), (b0, .inr (10, [.ref w0, .int (nI (uOf W0)), .int sk0])), (w0, .inl (dA 1, 2, .inr (.inl (lwd W0)))), (s1, .inr (3, [.int (nI (rcN f 1)), .int (nI (apN f 1)), .ref b1, .int (nI (acN f 1))])), (b1, .inr (10, [.ref w1, .int (nI (uOf W1)), .int sk1])), (w1, .inl (dA 1, 2, .inr (.inl (lwd W1)))), (xq, xe)]) (w1 := [(q1, .inr (5, [.ref q1, va_rf ru_27, va_rf rs_28, .ref (ad (10 + 1)), .null, .int 0, .int (-1000001)]))]) hP hD [13] [0, 1, 2, 3, 4, 5, 6, 7, 8, 9, 10, 11, 12] rfl rfl (by decide) (by decide) hF.2 hFc hP1 hD1
                  have hP : va_P D vwCl [(st, .inr (1, [.ref jn, .ref sl, .ref sa, .ref se, .int (f 1), .int (f 2), .int (f 3), .int (f 4), .int (f 5), .int (f 6)])), (jn, .inr (2, [.ref al])), (al, .inr (9, [.int mc, .ref ae, .int (nI (rN f))])), (sl, .inl (dA 0, 3, .inl (slF f))), (sa, .inl (dA 4, 2, .inr (.inr (.inr (.inr h))))), (se, .inl (dA 0, 2, .inl (seF f))), (s0, .inr (3, [.int (nI (rcN f 0)), .int (nI (apN f 0)), .ref b0, .int (nI (acN f 0))])), (b0, .inr (10, [.ref w0, .int (nI (uOf W0)), .int sk0])), (w0, .inl (dA 1, 2, .inr (.inl (lwd W0)))), (s1, .inr (3, [.int (nI (rcN f 1)), .int (nI (apN f 1)), .ref b1, .int (nI (acN f 1))])), (b1, .inr (10, [.ref w1, .int (nI (uOf W1)), .int sk1])), (w1, .inl (dA 1, 2, .inr (.inl (lwd W1)))), (xq, xe), (q1, .inr (5, [.ref q1, va_rf ru_27, va_rf rs_28, .ref (ad (10 + 1)), .null, .int 0, .int (-1000001)]))] H := hP
                  have hD : va_D A [(st, .inr (1, [.ref jn, .ref sl, .ref sa, .ref se, .int (f 1), .int (f 2), .int (f 3), .int (f 4), .int (f 5), .int (f 6)])), (jn, .inr (2, [.ref al])), (al, .inr (9, [.int mc, .ref ae, .int (nI (rN f))])), (sl, .inl (dA 0, 3, .inl (slF f))), (sa, .inl (dA 4, 2, .inr (.inr (.inr (.inr h))))), (se, .inl (dA 0, 2, .inl (seF f))), (s0, .inr (3, [.int (nI (rcN f 0)), .int (nI (apN f 0)), .ref b0, .int (nI (acN f 0))])), (b0, .inr (10, [.ref w0, .int (nI (uOf W0)), .int sk0])), (w0, .inl (dA 1, 2, .inr (.inl (lwd W0)))), (s1, .inr (3, [.int (nI (rcN f 1)), .int (nI (apN f 1)), .ref b1, .int (nI (acN f 1))])), (b1, .inr (10, [.ref w1, .int (nI (uOf W1)), .int sk1])), (w1, .inl (dA 1, 2, .inr (.inl (lwd W1)))), (xq, xe), (q1, .inr (5, [.ref q1, va_rf ru_27, va_rf rs_28, .ref (ad (10 + 1)), .null, .int 0, .int (-1000001)]))] := hD
                  refine z_athrow hx hb dX0_done_143 ?_
                  have hX9 : RfP D (-1000001) q1 H := ⟨_, _, _, _, _, _, hP 13 _ rfl⟩
                  have e9 : oPut f (nh 0) (nh 1) (nh 2) = (false, cIA, f) := by unfold oPut; rw [if_pos c_7, if_pos c_15]; exact wr_i c_24
                  exact z_outR htab hlocks hC.K hS hX9 ⟨_, e9, hX9⟩ (by omega) (by omega)
              · exact absurd c_23 (by decide)
            · exact absurd c_22 (by decide)
    · exact absurd (hQ.2 (by decide)) c_3
  · exact absurd c_1 (by decide)
