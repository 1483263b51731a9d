set_option maxHeartbeats 4000000 in
set_option maxRecDepth 100000 in
theorem mJ20_numberOfTrailingZeros (l : Launch) (D : va_G) (dA : Nat → ClassId) (ad : Nat → Nat) (sz : Nat) (v : Nat) (h1 : 1 ≤ v) (h2 : v < 2 ^ 32) : Met l yJ20_numberOfTrailingZeros (ws_ yJ20_numberOfTrailingZeros cJ20_numberOfTrailingZeros 2 (some .int)) ({ frames := 0, cells := 0, slots := 0, locals := 0 }) (va_Pc [.int (nI (v))] (zP D dA ad (fun q => sz ≤ q) sz (fun H => True))) (zQi (fun rz H => (∃ r, rz = nI r ∧ r ≤ 31 ∧ LowB v r)) (fun q => sz ≤ q)) (0) (0) (fun q => sz ≤ q) := by
  refine Met.ofW (cc := cJ20_numberOfTrailingZeros) (maxL := 2) (ret := (some .int)) (by decide) rfl ?_
  intro p e s m args below meth c s₁ B hml hv
  obtain ⟨rfl, hsz, hC, hP⟩ := hv
  have hx := B.exec
  have hb := B.bytes
  have hr := B.returns
  have hts := atoms_spec (ws := ws_ yJ20_numberOfTrailingZeros cJ20_numberOfTrailingZeros 2 (some .int)) B.pre
  have hts : ∀ w ∈ lw_all, w.before _ s = true := fun w h => hts w (List.mem_cons_of_mem _ h)
  have hown : s.vm.findClass RJ20 = some m.cls := findClass_of_methodNamed B.named
  have hlocks := B.notSynchronized
  subst hsz
  have hK := hC.K
  have hA : ∀ q : Nat, s.heap.size ≤ q → s.heap.size ≤ q := fun _ h => h
  have hS : va_S (fun q => s.heap.size ≤ q) s.heap s.heap [] := va_S.rf
  have hP : va_P D vwCl [] s.heap := va_Pnil
  have hl := lv_entry ([.int (nI (v))]) (n := 2) (Nat.le_of_ble_eq_true rfl)
  rw [lg_entry_eq]
  generalize (lg_sl ([.int (nI (v))]) ++ List.replicate (2 - (lg_sl ([.int (nI (v))])).length) Slot.unset).toArray = ls at hl ⊢
  have hl : lv_has ls 2 [(0, .int (nI (v)))] := hl
  obtain ⟨t, q, ht, rfl⟩ := low_ex 32 h2 h1
  have hlb : LowB (2 ^ t * (2 * q + 1)) t := low_tb
  refine lv_iload_n hx hb dJ20_numberOfTrailingZeros_0 rfl (lv_at hl 0 rfl) ?_
  refine lv_iconst (v := (-1)) hx hb dJ20_numberOfTrailingZeros_1 (by decide) ?_
  refine lv_ixor hx hb dJ20_numberOfTrailingZeros_2 ?_
  refine lv_iload_n hx hb dJ20_numberOfTrailingZeros_3 rfl (lv_at hl 0 rfl) ?_
  refine lv_iconst (v := nI (1)) hx hb dJ20_numberOfTrailingZeros_4 (by decide) ?_
  refine lv_isub hx hb dJ20_numberOfTrailingZeros_5 ?_
  refine lv_iand hx hb dJ20_numberOfTrailingZeros_6 ?_
  refine lv_tope (y := nI (2 ^ t - 1)) (low_and h2) ?_
  clear h1 h2
  rcases (show t = 0 ∨ t = 1 ∨ t = 2 ∨ t = 3 ∨ t = 4 ∨ t = 5 ∨ t = 6 ∨ t = 7 ∨ t = 8 ∨ t = 9 ∨ t = 10 ∨ t = 11 ∨ t = 12 ∨ t = 13 ∨ t = 14 ∨ t = 15 ∨ t = 16 ∨ t = 17 ∨ t = 18 ∨ t = 19 ∨ t = 20 ∨ t = 21 ∨ t = 22 ∨ t = 23 ∨ t = 24 ∨ t = 25 ∨ t = 26 ∨ t = 27 ∨ t = 28 ∨ t = 29 ∨ t = 30 ∨ t = 31 by omega) with rfl | rfl | rfl | rfl | rfl | rfl | rfl | rfl | rfl | rfl | rfl | rfl | rfl | rfl | rfl | rfl | rfl | rfl | rfl | rfl | rfl | rfl | rfl | rfl | rfl | rfl | rfl | rfl | rfl | rfl | rfl | rfl
  · refine lv_tope (y := nI (0)) (by decide) ?_
    refine lv_istore_n (lv' := [(0, .int (nI (0)))]) hx hb dJ20_numberOfTrailingZeros_7 rfl hl (by decide) rfl (fun ls hl => ?_)
    refine lv_iload_n hx hb dJ20_numberOfTrailingZeros_8 rfl (lv_at hl 0 rfl) ?_
    refine lv_if_gt (tgt := 17) hx hb dJ20_numberOfTrailingZeros_9 (by decide) (fun c_1 => ?_) (fun c_1 => ?_)
    · exact absurd c_1 (by decide)
    · refine lv_iload_n hx hb dJ20_numberOfTrailingZeros_12 rfl (lv_at hl 0 rfl) ?_
      refine lv_bipush (v := nI (32)) hx hb dJ20_numberOfTrailingZeros_13 (by decide) ?_
      refine lv_iand hx hb dJ20_numberOfTrailingZeros_15 ?_
      exact z_iret (v := (nI (0)) &&& (nI (32))) hx hb hr hS (⟨0, by decide, by decide, hlb⟩) (by omega) (by omega) dJ20_numberOfTrailingZeros_16
  · refine lv_tope (y := nI (1)) (by decide) ?_
    refine lv_istore_n (lv' := [(0, .int (nI (1)))]) hx hb dJ20_numberOfTrailingZeros_7 rfl hl (by decide) rfl (fun ls hl => ?_)
    refine lv_iload_n hx hb dJ20_numberOfTrailingZeros_8 rfl (lv_at hl 0 rfl) ?_
    refine lv_if_gt (tgt := 17) hx hb dJ20_numberOfTrailingZeros_9 (by decide) (fun c_2 => ?_) (fun c_2 => ?_)
    · refine lv_iconst (v := nI (1)) hx hb dJ20_numberOfTrailingZeros_17 (by decide) ?_
      refine lv_istore_n (lv' := [(1, .int (nI (1))), (0, .int (nI (1)))]) hx hb dJ20_numberOfTrailingZeros_18 rfl hl (by decide) rfl (fun ls hl => ?_)
      refine lv_iload_n hx hb dJ20_numberOfTrailingZeros_19 rfl (lv_at hl 1 rfl) ?_
      refine lv_ldcw (v := nI (65536)) hx hb hown (hts _ q788) dJ20_numberOfTrailingZeros_20 ?_
      refine lv_icmp_le (tgt := 34) hx hb dJ20_numberOfTrailingZeros_23 (by decide) (fun c_3 => ?_) (fun c_3 => ?_)
      · refine lv_iload_n hx hb dJ20_numberOfTrailingZeros_34 rfl (lv_at hl 1 rfl) ?_
        refine lv_sipush (v := nI (256)) hx hb dJ20_numberOfTrailingZeros_35 (by decide) ?_
        refine lv_icmp_le (tgt := 49) hx hb dJ20_numberOfTrailingZeros_38 (by decide) (fun c_4 => ?_) (fun c_4 => ?_)
        · refine lv_iload_n hx hb dJ20_numberOfTrailingZeros_49 rfl (lv_at hl 1 rfl) ?_
          refine lv_bipush (v := nI (16)) hx hb dJ20_numberOfTrailingZeros_50 (by decide) ?_
          refine lv_icmp_le (tgt := 62) hx hb dJ20_numberOfTrailingZeros_52 (by decide) (fun c_5 => ?_) (fun c_5 => ?_)
          · refine lv_iload_n hx hb dJ20_numberOfTrailingZeros_62 rfl (lv_at hl 1 rfl) ?_
            refine lv_iconst (v := nI (4)) hx hb dJ20_numberOfTrailingZeros_63 (by decide) ?_
            refine lv_icmp_le (tgt := 74) hx hb dJ20_numberOfTrailingZeros_64 (by decide) (fun c_6 => ?_) (fun c_6 => ?_)
            · refine lv_iload_n hx hb dJ20_numberOfTrailingZeros_74 rfl (lv_at hl 0 rfl) ?_
              refine lv_iload_n hx hb dJ20_numberOfTrailingZeros_75 rfl (lv_at hl 1 rfl) ?_
              refine lv_iconst (v := nI (1)) hx hb dJ20_numberOfTrailingZeros_76 (by decide) ?_
              refine lv_iushr (v := nI (0)) hx hb dJ20_numberOfTrailingZeros_77 (by decide) ?_
              refine lv_iadd hx hb dJ20_numberOfTrailingZeros_78 ?_
              refine lv_tope (y := nI (1)) (by decide) ?_
              exact z_iret (v := nI (1)) hx hb hr hS (⟨1, by decide, by decide, hlb⟩) (by omega) (by omega) dJ20_numberOfTrailingZeros_79
            · exact absurd c_6 (by decide)
          · exact absurd c_5 (by decide)
        · exact absurd c_4 (by decide)
      · exact absurd c_3 (by decide)
    · exact absurd c_2 (by decide)
  · refine lv_tope (y := nI (3)) (by decide) ?_
    refine lv_istore_n (lv' := [(0, .int (nI (3)))]) hx hb dJ20_numberOfTrailingZeros_7 rfl hl (by decide) rfl (fun ls hl => ?_)
    refine lv_iload_n hx hb dJ20_numberOfTrailingZeros_8 rfl (lv_at hl 0 rfl) ?_
    refine lv_if_gt (tgt := 17) hx hb dJ20_numberOfTrailingZeros_9 (by decide) (fun c_7 => ?_) (fun c_7 => ?_)
    · refine lv_iconst (v := nI (1)) hx hb dJ20_numberOfTrailingZeros_17 (by decide) ?_
      refine lv_istore_n (lv' := [(1, .int (nI (1))), (0, .int (nI (3)))]) hx hb dJ20_numberOfTrailingZeros_18 rfl hl (by decide) rfl (fun ls hl => ?_)
      refine lv_iload_n hx hb dJ20_numberOfTrailingZeros_19 rfl (lv_at hl 1 rfl) ?_
      refine lv_ldcw (v := nI (65536)) hx hb hown (hts _ q788) dJ20_numberOfTrailingZeros_20 ?_
      refine lv_icmp_le (tgt := 34) hx hb dJ20_numberOfTrailingZeros_23 (by decide) (fun c_8 => ?_) (fun c_8 => ?_)
      · refine lv_iload_n hx hb dJ20_numberOfTrailingZeros_34 rfl (lv_at hl 1 rfl) ?_
        refine lv_sipush (v := nI (256)) hx hb dJ20_numberOfTrailingZeros_35 (by decide) ?_
        refine lv_icmp_le (tgt := 49) hx hb dJ20_numberOfTrailingZeros_38 (by decide) (fun c_9 => ?_) (fun c_9 => ?_)
        · refine lv_iload_n hx hb dJ20_numberOfTrailingZeros_49 rfl (lv_at hl 1 rfl) ?_
          refine lv_bipush (v := nI (16)) hx hb dJ20_numberOfTrailingZeros_50 (by decide) ?_
          refine lv_icmp_le (tgt := 62) hx hb dJ20_numberOfTrailingZeros_52 (by decide) (fun c_10 => ?_) (fun c_10 => ?_)
          · refine lv_iload_n hx hb dJ20_numberOfTrailingZeros_62 rfl (lv_at hl 1 rfl) ?_
            refine lv_iconst (v := nI (4)) hx hb dJ20_numberOfTrailingZeros_63 (by decide) ?_
            refine lv_icmp_le (tgt := 74) hx hb dJ20_numberOfTrailingZeros_64 (by decide) (fun c_11 => ?_) (fun c_11 => ?_)
            · refine lv_iload_n hx hb dJ20_numberOfTrailingZeros_74 rfl (lv_at hl 0 rfl) ?_
              refine lv_iload_n hx hb dJ20_numberOfTrailingZeros_75 rfl (lv_at hl 1 rfl) ?_
              refine lv_iconst (v := nI (1)) hx hb dJ20_numberOfTrailingZeros_76 (by decide) ?_
              refine lv_iushr (v := nI (1)) hx hb dJ20_numberOfTrailingZeros_77 (by decide) ?_
              refine lv_iadd hx hb dJ20_numberOfTrailingZeros_78 ?_
              refine lv_tope (y := nI (2)) (by decide) ?_
              exact z_iret (v := nI (2)) hx hb hr hS (⟨2, by decide, by decide, hlb⟩) (by omega) (by omega) dJ20_numberOfTrailingZeros_79
            · exact absurd c_11 (by decide)
          · exact absurd c_10 (by decide)
        · exact absurd c_9 (by decide)
      · exact absurd c_8 (by decide)
    · exact absurd c_7 (by decide)
  · refine lv_tope (y := nI (7)) (by decide) ?_
    refine lv_istore_n (lv' := [(0, .int (nI (7)))]) hx hb dJ20_numberOfTrailingZeros_7 rfl hl (by decide) rfl (fun ls hl => ?_)
    refine lv_iload_n hx hb dJ20_numberOfTrailingZeros_8 rfl (lv_at hl 0 rfl) ?_
    refine lv_if_gt (tgt := 17) hx hb dJ20_numberOfTrailingZeros_9 (by decide) (fun c_12 => ?_) (fun c_12 => ?_)
    · refine lv_iconst (v := nI (1)) hx hb dJ20_numberOfTrailingZeros_17 (by decide) ?_
      refine lv_istore_n (lv' := [(1, .int (nI (1))), (0, .int (nI (7)))]) hx hb dJ20_numberOfTrailingZeros_18 rfl hl (by decide) rfl (fun ls hl => ?_)
      refine lv_iload_n hx hb dJ20_numberOfTrailingZeros_19 rfl (lv_at hl 1 rfl) ?_
      refine lv_ldcw (v := nI (65536)) hx hb hown (hts _ q788) dJ20_numberOfTrailingZeros_20 ?_
      refine lv_icmp_le (tgt := 34) hx hb dJ20_numberOfTrailingZeros_23 (by decide) (fun c_13 => ?_) (fun c_13 => ?_)
      · refine lv_iload_n hx hb dJ20_numberOfTrailingZeros_34 rfl (lv_at hl 1 rfl) ?_
        refine lv_sipush (v := nI (256)) hx hb dJ20_numberOfTrailingZeros_35 (by decide) ?_
        refine lv_icmp_le (tgt := 49) hx hb dJ20_numberOfTrailingZeros_38 (by decide) (fun c_14 => ?_) (fun c_14 => ?_)
        · refine lv_iload_n hx hb dJ20_numberOfTrailingZeros_49 rfl (lv_at hl 1 rfl) ?_
          refine lv_bipush (v := nI (16)) hx hb dJ20_numberOfTrailingZeros_50 (by decide) ?_
          refine lv_icmp_le (tgt := 62) hx hb dJ20_numberOfTrailingZeros_52 (by decide) (fun c_15 => ?_) (fun c_15 => ?_)
          · refine lv_iload_n hx hb dJ20_numberOfTrailingZeros_62 rfl (lv_at hl 1 rfl) ?_
            refine lv_iconst (v := nI (4)) hx hb dJ20_numberOfTrailingZeros_63 (by decide) ?_
            refine lv_icmp_le (tgt := 74) hx hb dJ20_numberOfTrailingZeros_64 (by decide) (fun c_16 => ?_) (fun c_16 => ?_)
            · exact absurd c_16 (by decide)
            · refine lv_iinc (v := nI (3)) (lv' := [(1, .int (nI (3))), (0, .int (nI (7)))]) hx hb dJ20_numberOfTrailingZeros_67 hl (k := 0) rfl (by decide) (by decide) rfl (fun ls hl => ?_)
              refine lv_iload_n hx hb dJ20_numberOfTrailingZeros_70 rfl (lv_at hl 1 rfl) ?_
              refine lv_iconst (v := nI (2)) hx hb dJ20_numberOfTrailingZeros_71 (by decide) ?_
              refine lv_iushr (v := nI (1)) hx hb dJ20_numberOfTrailingZeros_72 (by decide) ?_
              refine lv_istore_n (lv' := [(0, .int (nI (1))), (1, .int (nI (3)))]) hx hb dJ20_numberOfTrailingZeros_73 rfl hl (by decide) rfl (fun ls hl => ?_)
              refine lv_iload_n hx hb dJ20_numberOfTrailingZeros_74 rfl (lv_at hl 1 rfl) ?_
              refine lv_iload_n hx hb dJ20_numberOfTrailingZeros_75 rfl (lv_at hl 0 rfl) ?_
              refine lv_iconst (v := nI (1)) hx hb dJ20_numberOfTrailingZeros_76 (by decide) ?_
              refine lv_iushr (v := nI (0)) hx hb dJ20_numberOfTrailingZeros_77 (by decide) ?_
              refine lv_iadd hx hb dJ20_numberOfTrailingZeros_78 ?_
              refine lv_tope (y := nI (3)) (by decide) ?_
              exact z_iret (v := nI (3)) hx hb hr hS (⟨3, by decide, by decide, hlb⟩) (by omega) (by omega) dJ20_numberOfTrailingZeros_79
          · exact absurd c_15 (by decide)
        · exact absurd c_14 (by decide)
      · exact absurd c_13 (by decide)
    · exact absurd c_12 (by decide)
  · refine lv_tope (y := nI (15)) (by decide) ?_
    refine lv_istore_n (lv' := [(0, .int (nI (15)))]) hx hb dJ20_numberOfTrailingZeros_7 rfl hl (by decide) rfl (fun ls hl => ?_)
    refine lv_iload_n hx hb dJ20_numberOfTrailingZeros_8 rfl (lv_at hl 0 rfl) ?_
    refine lv_if_gt (tgt := 17) hx hb dJ20_numberOfTrailingZeros_9 (by decide) (fun c_17 => ?_) (fun c_17 => ?_)
    · refine lv_iconst (v := nI (1)) hx hb dJ20_numberOfTrailingZeros_17 (by decide) ?_
      refine lv_istore_n (lv' := [(1, .int (nI (1))), (0, .int (nI (15)))]) hx hb dJ20_numberOfTrailingZeros_18 rfl hl (by decide) rfl (fun ls hl => ?_)
      refine lv_iload_n hx hb dJ20_numberOfTrailingZeros_19 rfl (lv_at hl 1 rfl) ?_
      refine lv_ldcw (v := nI (65536)) hx hb hown (hts _ q788) dJ20_numberOfTrailingZeros_20 ?_
      refine lv_icmp_le (tgt := 34) hx hb dJ20_numberOfTrailingZeros_23 (by decide) (fun c_18 => ?_) (fun c_18 => ?_)
      · refine lv_iload_n hx hb dJ20_numberOfTrailingZeros_34 rfl (lv_at hl 1 rfl) ?_
        refine lv_sipush (v := nI (256)) hx hb dJ20_numberOfTrailingZeros_35 (by decide) ?_
        refine lv_icmp_le (tgt := 49) hx hb dJ20_numberOfTrailingZeros_38 (by decide) (fun c_19 => ?_) (fun c_19 => ?_)
        · refine lv_iload_n hx hb dJ20_numberOfTrailingZeros_49 rfl (lv_at hl 1 rfl) ?_
          refine lv_bipush (v := nI (16)) hx hb dJ20_numberOfTrailingZeros_50 (by decide) ?_
          refine lv_icmp_le (tgt := 62) hx hb dJ20_numberOfTrailingZeros_52 (by decide) (fun c_20 => ?_) (fun c_20 => ?_)
          · refine lv_iload_n hx hb dJ20_numberOfTrailingZeros_62 rfl (lv_at hl 1 rfl) ?_
            refine lv_iconst (v := nI (4)) hx hb dJ20_numberOfTrailingZeros_63 (by decide) ?_
            refine lv_icmp_le (tgt := 74) hx hb dJ20_numberOfTrailingZeros_64 (by decide) (fun c_21 => ?_) (fun c_21 => ?_)
            · exact absurd c_21 (by decide)
            · refine lv_iinc (v := nI (3)) (lv' := [(1, .int (nI (3))), (0, .int (nI (15)))]) hx hb dJ20_numberOfTrailingZeros_67 hl (k := 0) rfl (by decide) (by decide) rfl (fun ls hl => ?_)
              refine lv_iload_n hx hb dJ20_numberOfTrailingZeros_70 rfl (lv_at hl 1 rfl) ?_
              refine lv_iconst (v := nI (2)) hx hb dJ20_numberOfTrailingZeros_71 (by decide) ?_
              refine lv_iushr (v := nI (3)) hx hb dJ20_numberOfTrailingZeros_72 (by decide) ?_
              refine lv_istore_n (lv' := [(0, .int (nI (3))), (1, .int (nI (3)))]) hx hb dJ20_numberOfTrailingZeros_73 rfl hl (by decide) rfl (fun ls hl => ?_)
              refine lv_iload_n hx hb dJ20_numberOfTrailingZeros_74 rfl (lv_at hl 1 rfl) ?_
              refine lv_iload_n hx hb dJ20_numberOfTrailingZeros_75 rfl (lv_at hl 0 rfl) ?_
              refine lv_iconst (v := nI (1)) hx hb dJ20_numberOfTrailingZeros_76 (by decide) ?_
              refine lv_iushr (v := nI (1)) hx hb dJ20_numberOfTrailingZeros_77 (by decide) ?_
              refine lv_iadd hx hb dJ20_numberOfTrailingZeros_78 ?_
              refine lv_tope (y := nI (4)) (by decide) ?_
              exact z_iret (v := nI (4)) hx hb hr hS (⟨4, by decide, by decide, hlb⟩) (by omega) (by omega) dJ20_numberOfTrailingZeros_79
          · exact absurd c_20 (by decide)
        · exact absurd c_19 (by decide)
      · exact absurd c_18 (by decide)
    · exact absurd c_17 (by decide)
  · refine lv_tope (y := nI (31)) (by decide) ?_
    refine lv_istore_n (lv' := [(0, .int (nI (31)))]) hx hb dJ20_numberOfTrailingZeros_7 rfl hl (by decide) rfl (fun ls hl => ?_)
    refine lv_iload_n hx hb dJ20_numberOfTrailingZeros_8 rfl (lv_at hl 0 rfl) ?_
    refine lv_if_gt (tgt := 17) hx hb dJ20_numberOfTrailingZeros_9 (by decide) (fun c_22 => ?_) (fun c_22 => ?_)
    · refine lv_iconst (v := nI (1)) hx hb dJ20_numberOfTrailingZeros_17 (by decide) ?_
      refine lv_istore_n (lv' := [(1, .int (nI (1))), (0, .int (nI (31)))]) hx hb dJ20_numberOfTrailingZeros_18 rfl hl (by decide) rfl (fun ls hl => ?_)
      refine lv_iload_n hx hb dJ20_numberOfTrailingZeros_19 rfl (lv_at hl 1 rfl) ?_
      refine lv_ldcw (v := nI (65536)) hx hb hown (hts _ q788) dJ20_numberOfTrailingZeros_20 ?_
      refine lv_icmp_le (tgt := 34) hx hb dJ20_numberOfTrailingZeros_23 (by decide) (fun c_23 => ?_) (fun c_23 => ?_)
      · refine lv_iload_n hx hb dJ20_numberOfTrailingZeros_34 rfl (lv_at hl 1 rfl) ?_
        refine lv_sipush (v := nI (256)) hx hb dJ20_numberOfTrailingZeros_35 (by decide) ?_
        refine lv_icmp_le (tgt := 49) hx hb dJ20_numberOfTrailingZeros_38 (by decide) (fun c_24 => ?_) (fun c_24 => ?_)
        · refine lv_iload_n hx hb dJ20_numberOfTrailingZeros_49 rfl (lv_at hl 1 rfl) ?_
          refine lv_bipush (v := nI (16)) hx hb dJ20_numberOfTrailingZeros_50 (by decide) ?_
          refine lv_icmp_le (tgt := 62) hx hb dJ20_numberOfTrailingZeros_52 (by decide) (fun c_25 => ?_) (fun c_25 => ?_)
          · exact absurd c_25 (by decide)
          · refine lv_iinc (v := nI (5)) (lv' := [(1, .int (nI (5))), (0, .int (nI (31)))]) hx hb dJ20_numberOfTrailingZeros_55 hl (k := 0) rfl (by decide) (by decide) rfl (fun ls hl => ?_)
            refine lv_iload_n hx hb dJ20_numberOfTrailingZeros_58 rfl (lv_at hl 1 rfl) ?_
            refine lv_iconst (v := nI (4)) hx hb dJ20_numberOfTrailingZeros_59 (by decide) ?_
            refine lv_iushr (v := nI (1)) hx hb dJ20_numberOfTrailingZeros_60 (by decide) ?_
            refine lv_istore_n (lv' := [(0, .int (nI (1))), (1, .int (nI (5)))]) hx hb dJ20_numberOfTrailingZeros_61 rfl hl (by decide) rfl (fun ls hl => ?_)
            refine lv_iload_n hx hb dJ20_numberOfTrailingZeros_62 rfl (lv_at hl 0 rfl) ?_
            refine lv_iconst (v := nI (4)) hx hb dJ20_numberOfTrailingZeros_63 (by decide) ?_
            refine lv_icmp_le (tgt := 74) hx hb dJ20_numberOfTrailingZeros_64 (by decide) (fun c_26 => ?_) (fun c_26 => ?_)
            · refine lv_iload_n hx hb dJ20_numberOfTrailingZeros_74 rfl (lv_at hl 1 rfl) ?_
              refine lv_iload_n hx hb dJ20_numberOfTrailingZeros_75 rfl (lv_at hl 0 rfl) ?_
              refine lv_iconst (v := nI (1)) hx hb dJ20_numberOfTrailingZeros_76 (by decide) ?_
              refine lv_iushr (v := nI (0)) hx hb dJ20_numberOfTrailingZeros_77 (by decide) ?_
              refine lv_iadd hx hb dJ20_numberOfTrailingZeros_78 ?_
              refine lv_tope (y := nI (5)) (by decide) ?_
              exact z_iret (v := nI (5)) hx hb hr hS (⟨5, by decide, by decide, hlb⟩) (by omega) (by omega) dJ20_numberOfTrailingZeros_79
            · exact absurd c_26 (by decide)
        · exact absurd c_24 (by decide)
      · exact absurd c_23 (by decide)
    · exact absurd c_22 (by decide)
  · refine lv_tope (y := nI (63)) (by decide) ?_
    refine lv_istore_n (lv' := [(0, .int (nI (63)))]) hx hb dJ20_numberOfTrailingZeros_7 rfl hl (by decide) rfl (fun ls hl => ?_)
    refine lv_iload_n hx hb dJ20_numberOfTrailingZeros_8 rfl (lv_at hl 0 rfl) ?_
    refine lv_if_gt (tgt := 17) hx hb dJ20_numberOfTrailingZeros_9 (by decide) (fun c_27 => ?_) (fun c_27 => ?_)
    · refine lv_iconst (v := nI (1)) hx hb dJ20_numberOfTrailingZeros_17 (by decide) ?_
      refine lv_istore_n (lv' := [(1, .int (nI (1))), (0, .int (nI (63)))]) hx hb dJ20_numberOfTrailingZeros_18 rfl hl (by decide) rfl (fun ls hl => ?_)
      refine lv_iload_n hx hb dJ20_numberOfTrailingZeros_19 rfl (lv_at hl 1 rfl) ?_
      refine lv_ldcw (v := nI (65536)) hx hb hown (hts _ q788) dJ20_numberOfTrailingZeros_20 ?_
      refine lv_icmp_le (tgt := 34) hx hb dJ20_numberOfTrailingZeros_23 (by decide) (fun c_28 => ?_) (fun c_28 => ?_)
      · refine lv_iload_n hx hb dJ20_numberOfTrailingZeros_34 rfl (lv_at hl 1 rfl) ?_
        refine lv_sipush (v := nI (256)) hx hb dJ20_numberOfTrailingZeros_35 (by decide) ?_
        refine lv_icmp_le (tgt := 49) hx hb dJ20_numberOfTrailingZeros_38 (by decide) (fun c_29 => ?_) (fun c_29 => ?_)
        · refine lv_iload_n hx hb dJ20_numberOfTrailingZeros_49 rfl (lv_at hl 1 rfl) ?_
          refine lv_bipush (v := nI (16)) hx hb dJ20_numberOfTrailingZeros_50 (by decide) ?_
          refine lv_icmp_le (tgt := 62) hx hb dJ20_numberOfTrailingZeros_52 (by decide) (fun c_30 => ?_) (fun c_30 => ?_)
          · exact absurd c_30 (by decide)
          · refine lv_iinc (v := nI (5)) (lv' := [(1, .int (nI (5))), (0, .int (nI (63)))]) hx hb dJ20_numberOfTrailingZeros_55 hl (k := 0) rfl (by decide) (by decide) rfl (fun ls hl => ?_)
            refine lv_iload_n hx hb dJ20_numberOfTrailingZeros_58 rfl (lv_at hl 1 rfl) ?_
            refine lv_iconst (v := nI (4)) hx hb dJ20_numberOfTrailingZeros_59 (by decide) ?_
            refine lv_iushr (v := nI (3)) hx hb dJ20_numberOfTrailingZeros_60 (by decide) ?_
            refine lv_istore_n (lv' := [(0, .int (nI (3))), (1, .int (nI (5)))]) hx hb dJ20_numberOfTrailingZeros_61 rfl hl (by decide) rfl (fun ls hl => ?_)
            refine lv_iload_n hx hb dJ20_numberOfTrailingZeros_62 rfl (lv_at hl 0 rfl) ?_
            refine lv_iconst (v := nI (4)) hx hb dJ20_numberOfTrailingZeros_63 (by decide) ?_
            refine lv_icmp_le (tgt := 74) hx hb dJ20_numberOfTrailingZeros_64 (by decide) (fun c_31 => ?_) (fun c_31 => ?_)
            · refine lv_iload_n hx hb dJ20_numberOfTrailingZeros_74 rfl (lv_at hl 1 rfl) ?_
              refine lv_iload_n hx hb dJ20_numberOfTrailingZeros_75 rfl (lv_at hl 0 rfl) ?_
              refine lv_iconst (v := nI (1)) hx hb dJ20_numberOfTrailingZeros_76 (by decide) ?_
              refine lv_iushr (v := nI (1)) hx hb dJ20_numberOfTrailingZeros_77 (by decide) ?_
              refine lv_iadd hx hb dJ20_numberOfTrailingZeros_78 ?_
              refine lv_tope (y := nI (6)) (by decide) ?_
              exact z_iret (v := nI (6)) hx hb hr hS (⟨6, by decide, by decide, hlb⟩) (by omega) (by omega) dJ20_numberOfTrailingZeros_79
            · exact absurd c_31 (by decide)
        · exact absurd c_29 (by decide)
      · exact absurd c_28 (by decide)
    · exact absurd c_27 (by decide)
  · refine lv_tope (y := nI (127)) (by decide) ?_
    refine lv_istore_n (lv' := [(0, .int (nI (127)))]) hx hb dJ20_numberOfTrailingZeros_7 rfl hl (by decide) rfl (fun ls hl => ?_)
    refine lv_iload_n hx hb dJ20_numberOfTrailingZeros_8 rfl (lv_at hl 0 rfl) ?_
    refine lv_if_gt (tgt := 17) hx hb dJ20_numberOfTrailingZeros_9 (by decide) (fun c_32 => ?_) (fun c_32 => ?_)
    · refine lv_iconst (v := nI (1)) hx hb dJ20_numberOfTrailingZeros_17 (by decide) ?_
      refine lv_istore_n (lv' := [(1, .int (nI (1))), (0, .int (nI (127)))]) hx hb dJ20_numberOfTrailingZeros_18 rfl hl (by decide) rfl (fun ls hl => ?_)
      refine lv_iload_n hx hb dJ20_numberOfTrailingZeros_19 rfl (lv_at hl 1 rfl) ?_
      refine lv_ldcw (v := nI (65536)) hx hb hown (hts _ q788) dJ20_numberOfTrailingZeros_20 ?_
      refine lv_icmp_le (tgt := 34) hx hb dJ20_numberOfTrailingZeros_23 (by decide) (fun c_33 => ?_) (fun c_33 => ?_)
      · refine lv_iload_n hx hb dJ20_numberOfTrailingZeros_34 rfl (lv_at hl 1 rfl) ?_
        refine lv_sipush (v := nI (256)) hx hb dJ20_numberOfTrailingZeros_35 (by decide) ?_
        refine lv_icmp_le (tgt := 49) hx hb dJ20_numberOfTrailingZeros_38 (by decide) (fun c_34 => ?_) (fun c_34 => ?_)
        · refine lv_iload_n hx hb dJ20_numberOfTrailingZeros_49 rfl (lv_at hl 1 rfl) ?_
          refine lv_bipush (v := nI (16)) hx hb dJ20_numberOfTrailingZeros_50 (by decide) ?_
          refine lv_icmp_le (tgt := 62) hx hb dJ20_numberOfTrailingZeros_52 (by decide) (fun c_35 => ?_) (fun c_35 => ?_)
          · exact absurd c_35 (by decide)
          · refine lv_iinc (v := nI (5)) (lv' := [(1, .int (nI (5))), (0, .int (nI (127)))]) hx hb dJ20_numberOfTrailingZeros_55 hl (k := 0) rfl (by decide) (by decide) rfl (fun ls hl => ?_)
            refine lv_iload_n hx hb dJ20_numberOfTrailingZeros_58 rfl (lv_at hl 1 rfl) ?_
            refine lv_iconst (v := nI (4)) hx hb dJ20_numberOfTrailingZeros_59 (by decide) ?_
            refine lv_iushr (v := nI (7)) hx hb dJ20_numberOfTrailingZeros_60 (by decide) ?_
            refine lv_istore_n (lv' := [(0, .int (nI (7))), (1, .int (nI (5)))]) hx hb dJ20_numberOfTrailingZeros_61 rfl hl (by decide) rfl (fun ls hl => ?_)
            refine lv_iload_n hx hb dJ20_numberOfTrailingZeros_62 rfl (lv_at hl 0 rfl) ?_
            refine lv_iconst (v := nI (4)) hx hb dJ20_numberOfTrailingZeros_63 (by decide) ?_
            refine lv_icmp_le (tgt := 74) hx hb dJ20_numberOfTrailingZeros_64 (by decide) (fun c_36 => ?_) (fun c_36 => ?_)
            · exact absurd c_36 (by decide)
            · refine lv_iinc (v := nI (7)) (lv' := [(1, .int (nI (7))), (0, .int (nI (7)))]) hx hb dJ20_numberOfTrailingZeros_67 hl (k := 1) rfl (by decide) (by decide) rfl (fun ls hl => ?_)
              refine lv_iload_n hx hb dJ20_numberOfTrailingZeros_70 rfl (lv_at hl 1 rfl) ?_
              refine lv_iconst (v := nI (2)) hx hb dJ20_numberOfTrailingZeros_71 (by decide) ?_
              refine lv_iushr (v := nI (1)) hx hb dJ20_numberOfTrailingZeros_72 (by decide) ?_
              refine lv_istore_n (lv' := [(0, .int (nI (1))), (1, .int (nI (7)))]) hx hb dJ20_numberOfTrailingZeros_73 rfl hl (by decide) rfl (fun ls hl => ?_)
              refine lv_iload_n hx hb dJ20_numberOfTrailingZeros_74 rfl (lv_at hl 1 rfl) ?_
              refine lv_iload_n hx hb dJ20_numberOfTrailingZeros_75 rfl (lv_at hl 0 rfl) ?_
              refine lv_iconst (v := nI (1)) hx hb dJ20_numberOfTrailingZeros_76 (by decide) ?_
              refine lv_iushr (v := nI (0)) hx hb dJ20_numberOfTrailingZeros_77 (by decide) ?_
              refine lv_iadd hx hb dJ20_numberOfTrailingZeros_78 ?_
              refine lv_tope (y := nI (7)) (by decide) ?_
              exact z_iret (v := nI (7)) hx hb hr hS (⟨7, by decide, by decide, hlb⟩) (by omega) (by omega) dJ20_numberOfTrailingZeros_79
        · exact absurd c_34 (by decide)
      · exact absurd c_33 (by decide)
    · exact absurd c_32 (by decide)
  · refine lv_tope (y := nI (255)) (by decide) ?_
    refine lv_istore_n (lv' := [(0, .int (nI (255)))]) hx hb dJ20_numberOfTrailingZeros_7 rfl hl (by decide) rfl (fun ls hl => ?_)
    refine lv_iload_n hx hb dJ20_numberOfTrailingZeros_8 rfl (lv_at hl 0 rfl) ?_
    refine lv_if_gt (tgt := 17) hx hb dJ20_numberOfTrailingZeros_9 (by decide) (fun c_37 => ?_) (fun c_37 => ?_)
    · refine lv_iconst (v := nI (1)) hx hb dJ20_numberOfTrailingZeros_17 (by decide) ?_
      refine lv_istore_n (lv' := [(1, .int (nI (1))), (0, .int (nI (255)))]) hx hb dJ20_numberOfTrailingZeros_18 rfl hl (by decide) rfl (fun ls hl => ?_)
      refine lv_iload_n hx hb dJ20_numberOfTrailingZeros_19 rfl (lv_at hl 1 rfl) ?_
      refine lv_ldcw (v := nI (65536)) hx hb hown (hts _ q788) dJ20_numberOfTrailingZeros_20 ?_
      refine lv_icmp_le (tgt := 34) hx hb dJ20_numberOfTrailingZeros_23 (by decide) (fun c_38 => ?_) (fun c_38 => ?_)
      · refine lv_iload_n hx hb dJ20_numberOfTrailingZeros_34 rfl (lv_at hl 1 rfl) ?_
        refine lv_sipush (v := nI (256)) hx hb dJ20_numberOfTrailingZeros_35 (by decide) ?_
        refine lv_icmp_le (tgt := 49) hx hb dJ20_numberOfTrailingZeros_38 (by decide) (fun c_39 => ?_) (fun c_39 => ?_)
        · refine lv_iload_n hx hb dJ20_numberOfTrailingZeros_49 rfl (lv_at hl 1 rfl) ?_
          refine lv_bipush (v := nI (16)) hx hb dJ20_numberOfTrailingZeros_50 (by decide) ?_
          refine lv_icmp_le (tgt := 62) hx hb dJ20_numberOfTrailingZeros_52 (by decide) (fun c_40 => ?_) (fun c_40 => ?_)
          · exact absurd c_40 (by decide)
          · refine lv_iinc (v := nI (5)) (lv' := [(1, .int (nI (5))), (0, .int (nI (255)))]) hx hb dJ20_numberOfTrailingZeros_55 hl (k := 0) rfl (by decide) (by decide) rfl (fun ls hl => ?_)
            refine lv_iload_n hx hb dJ20_numberOfTrailingZeros_58 rfl (lv_at hl 1 rfl) ?_
            refine lv_iconst (v := nI (4)) hx hb dJ20_numberOfTrailingZeros_59 (by decide) ?_
            refine lv_iushr (v := nI (15)) hx hb dJ20_numberOfTrailingZeros_60 (by decide) ?_
            refine lv_istore_n (lv' := [(0, .int (nI (15))), (1, .int (nI (5)))]) hx hb dJ20_numberOfTrailingZeros_61 rfl hl (by decide) rfl (fun ls hl => ?_)
            refine lv_iload_n hx hb dJ20_numberOfTrailingZeros_62 rfl (lv_at hl 0 rfl) ?_
            refine lv_iconst (v := nI (4)) hx hb dJ20_numberOfTrailingZeros_63 (by decide) ?_
            refine lv_icmp_le (tgt := 74) hx hb dJ20_numberOfTrailingZeros_64 (by decide) (fun c_41 => ?_) (fun c_41 => ?_)
            · exact absurd c_41 (by decide)
            · refine lv_iinc (v := nI (7)) (lv' := [(1, .int (nI (7))), (0, .int (nI (15)))]) hx hb dJ20_numberOfTrailingZeros_67 hl (k := 1) rfl (by decide) (by decide) rfl (fun ls hl => ?_)
              refine lv_iload_n hx hb dJ20_numberOfTrailingZeros_70 rfl (lv_at hl 1 rfl) ?_
              refine lv_iconst (v := nI (2)) hx hb dJ20_numberOfTrailingZeros_71 (by decide) ?_
              refine lv_iushr (v := nI (3)) hx hb dJ20_numberOfTrailingZeros_72 (by decide) ?_
              refine lv_istore_n (lv' := [(0, .int (nI (3))), (1, .int (nI (7)))]) hx hb dJ20_numberOfTrailingZeros_73 rfl hl (by decide) rfl (fun ls hl => ?_)
              refine lv_iload_n hx hb dJ20_numberOfTrailingZeros_74 rfl (lv_at hl 1 rfl) ?_
              refine lv_iload_n hx hb dJ20_numberOfTrailingZeros_75 rfl (lv_at hl 0 rfl) ?_
              refine lv_iconst (v := nI (1)) hx hb dJ20_numberOfTrailingZeros_76 (by decide) ?_
              refine lv_iushr (v := nI (1)) hx hb dJ20_numberOfTrailingZeros_77 (by decide) ?_
              refine lv_iadd hx hb dJ20_numberOfTrailingZeros_78 ?_
              refine lv_tope (y := nI (8)) (by decide) ?_
              exact z_iret (v := nI (8)) hx hb hr hS (⟨8, by decide, by decide, hlb⟩) (by omega) (by omega) dJ20_numberOfTrailingZeros_79
        · exact absurd c_39 (by decide)
      · exact absurd c_38 (by decide)
    · exact absurd c_37 (by decide)
  · refine lv_tope (y := nI (511)) (by decide) ?_
    refine lv_istore_n (lv' := [(0, .int (nI (511)))]) hx hb dJ20_numberOfTrailingZeros_7 rfl hl (by decide) rfl (fun ls hl => ?_)
    refine lv_iload_n hx hb dJ20_numberOfTrailingZeros_8 rfl (lv_at hl 0 rfl) ?_
    refine lv_if_gt (tgt := 17) hx hb dJ20_numberOfTrailingZeros_9 (by decide) (fun c_42 => ?_) (fun c_42 => ?_)
    · refine lv_iconst (v := nI (1)) hx hb dJ20_numberOfTrailingZeros_17 (by decide) ?_
      refine lv_istore_n (lv' := [(1, .int (nI (1))), (0, .int (nI (511)))]) hx hb dJ20_numberOfTrailingZeros_18 rfl hl (by decide) rfl (fun ls hl => ?_)
      refine lv_iload_n hx hb dJ20_numberOfTrailingZeros_19 rfl (lv_at hl 1 rfl) ?_
      refine lv_ldcw (v := nI (65536)) hx hb hown (hts _ q788) dJ20_numberOfTrailingZeros_20 ?_
      refine lv_icmp_le (tgt := 34) hx hb dJ20_numberOfTrailingZeros_23 (by decide) (fun c_43 => ?_) (fun c_43 => ?_)
      · refine lv_iload_n hx hb dJ20_numberOfTrailingZeros_34 rfl (lv_at hl 1 rfl) ?_
        refine lv_sipush (v := nI (256)) hx hb dJ20_numberOfTrailingZeros_35 (by decide) ?_
        refine lv_icmp_le (tgt := 49) hx hb dJ20_numberOfTrailingZeros_38 (by decide) (fun c_44 => ?_) (fun c_44 => ?_)
        · exact absurd c_44 (by decide)
        · refine lv_iinc (v := nI (9)) (lv' := [(1, .int (nI (9))), (0, .int (nI (511)))]) hx hb dJ20_numberOfTrailingZeros_41 hl (k := 0) rfl (by decide) (by decide) rfl (fun ls hl => ?_)
          refine lv_iload_n hx hb dJ20_numberOfTrailingZeros_44 rfl (lv_at hl 1 rfl) ?_
          refine lv_bipush (v := nI (8)) hx hb dJ20_numberOfTrailingZeros_45 (by decide) ?_
          refine lv_iushr (v := nI (1)) hx hb dJ20_numberOfTrailingZeros_47 (by decide) ?_
          refine lv_istore_n (lv' := [(0, .int (nI (1))), (1, .int (nI (9)))]) hx hb dJ20_numberOfTrailingZeros_48 rfl hl (by decide) rfl (fun ls hl => ?_)
          refine lv_iload_n hx hb dJ20_numberOfTrailingZeros_49 rfl (lv_at hl 0 rfl) ?_
          refine lv_bipush (v := nI (16)) hx hb dJ20_numberOfTrailingZeros_50 (by decide) ?_
          refine lv_icmp_le (tgt := 62) hx hb dJ20_numberOfTrailingZeros_52 (by decide) (fun c_45 => ?_) (fun c_45 => ?_)
          · refine lv_iload_n hx hb dJ20_numberOfTrailingZeros_62 rfl (lv_at hl 0 rfl) ?_
            refine lv_iconst (v := nI (4)) hx hb dJ20_numberOfTrailingZeros_63 (by decide) ?_
            refine lv_icmp_le (tgt := 74) hx hb dJ20_numberOfTrailingZeros_64 (by decide) (fun c_46 => ?_) (fun c_46 => ?_)
            · refine lv_iload_n hx hb dJ20_numberOfTrailingZeros_74 rfl (lv_at hl 1 rfl) ?_
              refine lv_iload_n hx hb dJ20_numberOfTrailingZeros_75 rfl (lv_at hl 0 rfl) ?_
              refine lv_iconst (v := nI (1)) hx hb dJ20_numberOfTrailingZeros_76 (by decide) ?_
              refine lv_iushr (v := nI (0)) hx hb dJ20_numberOfTrailingZeros_77 (by decide) ?_
              refine lv_iadd hx hb dJ20_numberOfTrailingZeros_78 ?_
              refine lv_tope (y := nI (9)) (by decide) ?_
              exact z_iret (v := nI (9)) hx hb hr hS (⟨9, by decide, by decide, hlb⟩) (by omega) (by omega) dJ20_numberOfTrailingZeros_79
            · exact absurd c_46 (by decide)
          · exact absurd c_45 (by decide)
      · exact absurd c_43 (by decide)
    · exact absurd c_42 (by decide)
  · refine lv_tope (y := nI (1023)) (by decide) ?_
    refine lv_istore_n (lv' := [(0, .int (nI (1023)))]) hx hb dJ20_numberOfTrailingZeros_7 rfl hl (by decide) rfl (fun ls hl => ?_)
    refine lv_iload_n hx hb dJ20_numberOfTrailingZeros_8 rfl (lv_at hl 0 rfl) ?_
    refine lv_if_gt (tgt := 17) hx hb dJ20_numberOfTrailingZeros_9 (by decide) (fun c_47 => ?_) (fun c_47 => ?_)
    · refine lv_iconst (v := nI (1)) hx hb dJ20_numberOfTrailingZeros_17 (by decide) ?_
      refine lv_istore_n (lv' := [(1, .int (nI (1))), (0, .int (nI (1023)))]) hx hb dJ20_numberOfTrailingZeros_18 rfl hl (by decide) rfl (fun ls hl => ?_)
      refine lv_iload_n hx hb dJ20_numberOfTrailingZeros_19 rfl (lv_at hl 1 rfl) ?_
      refine lv_ldcw (v := nI (65536)) hx hb hown (hts _ q788) dJ20_numberOfTrailingZeros_20 ?_
      refine lv_icmp_le (tgt := 34) hx hb dJ20_numberOfTrailingZeros_23 (by decide) (fun c_48 => ?_) (fun c_48 => ?_)
      · refine lv_iload_n hx hb dJ20_numberOfTrailingZeros_34 rfl (lv_at hl 1 rfl) ?_
        refine lv_sipush (v := nI (256)) hx hb dJ20_numberOfTrailingZeros_35 (by decide) ?_
        refine lv_icmp_le (tgt := 49) hx hb dJ20_numberOfTrailingZeros_38 (by decide) (fun c_49 => ?_) (fun c_49 => ?_)
        · exact absurd c_49 (by decide)
        · refine lv_iinc (v := nI (9)) (lv' := [(1, .int (nI (9))), (0, .int (nI (1023)))]) hx hb dJ20_numberOfTrailingZeros_41 hl (k := 0) rfl (by decide) (by decide) rfl (fun ls hl => ?_)
          refine lv_iload_n hx hb dJ20_numberOfTrailingZeros_44 rfl (lv_at hl 1 rfl) ?_
          refine lv_bipush (v := nI (8)) hx hb dJ20_numberOfTrailingZeros_45 (by decide) ?_
          refine lv_iushr (v := nI (3)) hx hb dJ20_numberOfTrailingZeros_47 (by decide) ?_
          refine lv_istore_n (lv' := [(0, .int (nI (3))), (1, .int (nI (9)))]) hx hb dJ20_numberOfTrailingZeros_48 rfl hl (by decide) rfl (fun ls hl => ?_)
          refine lv_iload_n hx hb dJ20_numberOfTrailingZeros_49 rfl (lv_at hl 0 rfl) ?_
          refine lv_bipush (v := nI (16)) hx hb dJ20_numberOfTrailingZeros_50 (by decide) ?_
          refine lv_icmp_le (tgt := 62) hx hb dJ20_numberOfTrailingZeros_52 (by decide) (fun c_50 => ?_) (fun c_50 => ?_)
          · refine lv_iload_n hx hb dJ20_numberOfTrailingZeros_62 rfl (lv_at hl 0 rfl) ?_
            refine lv_iconst (v := nI (4)) hx hb dJ20_numberOfTrailingZeros_63 (by decide) ?_
            refine lv_icmp_le (tgt := 74) hx hb dJ20_numberOfTrailingZeros_64 (by decide) (fun c_51 => ?_) (fun c_51 => ?_)
            · refine lv_iload_n hx hb dJ20_numberOfTrailingZeros_74 rfl (lv_at hl 1 rfl) ?_
              refine lv_iload_n hx hb dJ20_numberOfTrailingZeros_75 rfl (lv_at hl 0 rfl) ?_
              refine lv_iconst (v := nI (1)) hx hb dJ20_numberOfTrailingZeros_76 (by decide) ?_
              refine lv_iushr (v := nI (1)) hx hb dJ20_numberOfTrailingZeros_77 (by decide) ?_
              refine lv_iadd hx hb dJ20_numberOfTrailingZeros_78 ?_
              refine lv_tope (y := nI (10)) (by decide) ?_
              exact z_iret (v := nI (10)) hx hb hr hS (⟨10, by decide, by decide, hlb⟩) (by omega) (by omega) dJ20_numberOfTrailingZeros_79
            · exact absurd c_51 (by decide)
          · exact absurd c_50 (by decide)
      · exact absurd c_48 (by decide)
    · exact absurd c_47 (by decide)
  · refine lv_tope (y := nI (2047)) (by decide) ?_
    refine lv_istore_n (lv' := [(0, .int (nI (2047)))]) hx hb dJ20_numberOfTrailingZeros_7 rfl hl (by decide) rfl (fun ls hl => ?_)
    refine lv_iload_n hx hb dJ20_numberOfTrailingZeros_8 rfl (lv_at hl 0 rfl) ?_
    refine lv_if_gt (tgt := 17) hx hb dJ20_numberOfTrailingZeros_9 (by decide) (fun c_52 => ?_) (fun c_52 => ?_)
    · refine lv_iconst (v := nI (1)) hx hb dJ20_numberOfTrailingZeros_17 (by decide) ?_
      refine lv_istore_n (lv' := [(1, .int (nI (1))), (0, .int (nI (2047)))]) hx hb dJ20_numberOfTrailingZeros_18 rfl hl (by decide) rfl (fun ls hl => ?_)
      refine lv_iload_n hx hb dJ20_numberOfTrailingZeros_19 rfl (lv_at hl 1 rfl) ?_
      refine lv_ldcw (v := nI (65536)) hx hb hown (hts _ q788) dJ20_numberOfTrailingZeros_20 ?_
      refine lv_icmp_le (tgt := 34) hx hb dJ20_numberOfTrailingZeros_23 (by decide) (fun c_53 => ?_) (fun c_53 => ?_)
      · refine lv_iload_n hx hb dJ20_numberOfTrailingZeros_34 rfl (lv_at hl 1 rfl) ?_
        refine lv_sipush (v := nI (256)) hx hb dJ20_numberOfTrailingZeros_35 (by decide) ?_
        refine lv_icmp_le (tgt := 49) hx hb dJ20_numberOfTrailingZeros_38 (by decide) (fun c_54 => ?_) (fun c_54 => ?_)
        · exact absurd c_54 (by decide)
        · refine lv_iinc (v := nI (9)) (lv' := [(1, .int (nI (9))), (0, .int (nI (2047)))]) hx hb dJ20_numberOfTrailingZeros_41 hl (k := 0) rfl (by decide) (by decide) rfl (fun ls hl => ?_)
          refine lv_iload_n hx hb dJ20_numberOfTrailingZeros_44 rfl (lv_at hl 1 rfl) ?_
          refine lv_bipush (v := nI (8)) hx hb dJ20_numberOfTrailingZeros_45 (by decide) ?_
          refine lv_iushr (v := nI (7)) hx hb dJ20_numberOfTrailingZeros_47 (by decide) ?_
          refine lv_istore_n (lv' := [(0, .int (nI (7))), (1, .int (nI (9)))]) hx hb dJ20_numberOfTrailingZeros_48 rfl hl (by decide) rfl (fun ls hl => ?_)
          refine lv_iload_n hx hb dJ20_numberOfTrailingZeros_49 rfl (lv_at hl 0 rfl) ?_
          refine lv_bipush (v := nI (16)) hx hb dJ20_numberOfTrailingZeros_50 (by decide) ?_
          refine lv_icmp_le (tgt := 62) hx hb dJ20_numberOfTrailingZeros_52 (by decide) (fun c_55 => ?_) (fun c_55 => ?_)
          · refine lv_iload_n hx hb dJ20_numberOfTrailingZeros_62 rfl (lv_at hl 0 rfl) ?_
            refine lv_iconst (v := nI (4)) hx hb dJ20_numberOfTrailingZeros_63 (by decide) ?_
            refine lv_icmp_le (tgt := 74) hx hb dJ20_numberOfTrailingZeros_64 (by decide) (fun c_56 => ?_) (fun c_56 => ?_)
            · exact absurd c_56 (by decide)
            · refine lv_iinc (v := nI (11)) (lv' := [(1, .int (nI (11))), (0, .int (nI (7)))]) hx hb dJ20_numberOfTrailingZeros_67 hl (k := 1) rfl (by decide) (by decide) rfl (fun ls hl => ?_)
              refine lv_iload_n hx hb dJ20_numberOfTrailingZeros_70 rfl (lv_at hl 1 rfl) ?_
              refine lv_iconst (v := nI (2)) hx hb dJ20_numberOfTrailingZeros_71 (by decide) ?_
              refine lv_iushr (v := nI (1)) hx hb dJ20_numberOfTrailingZeros_72 (by decide) ?_
              refine lv_istore_n (lv' := [(0, .int (nI (1))), (1, .int (nI (11)))]) hx hb dJ20_numberOfTrailingZeros_73 rfl hl (by decide) rfl (fun ls hl => ?_)
              refine lv_iload_n hx hb dJ20_numberOfTrailingZeros_74 rfl (lv_at hl 1 rfl) ?_
              refine lv_iload_n hx hb dJ20_numberOfTrailingZeros_75 rfl (lv_at hl 0 rfl) ?_
              refine lv_iconst (v := nI (1)) hx hb dJ20_numberOfTrailingZeros_76 (by decide) ?_
              refine lv_iushr (v := nI (0)) hx hb dJ20_numberOfTrailingZeros_77 (by decide) ?_
              refine lv_iadd hx hb dJ20_numberOfTrailingZeros_78 ?_
              refine lv_tope (y := nI (11)) (by decide) ?_
              exact z_iret (v := nI (11)) hx hb hr hS (⟨11, by decide, by decide, hlb⟩) (by omega) (by omega) dJ20_numberOfTrailingZeros_79
          · exact absurd c_55 (by decide)
      · exact absurd c_53 (by decide)
    · exact absurd c_52 (by decide)
  · refine lv_tope (y := nI (4095)) (by decide) ?_
    refine lv_istore_n (lv' := [(0, .int (nI (4095)))]) hx hb dJ20_numberOfTrailingZeros_7 rfl hl (by decide) rfl (fun ls hl => ?_)
    refine lv_iload_n hx hb dJ20_numberOfTrailingZeros_8 rfl (lv_at hl 0 rfl) ?_
    refine lv_if_gt (tgt := 17) hx hb dJ20_numberOfTrailingZeros_9 (by decide) (fun c_57 => ?_) (fun c_57 => ?_)
    · refine lv_iconst (v := nI (1)) hx hb dJ20_numberOfTrailingZeros_17 (by decide) ?_
      refine lv_istore_n (lv' := [(1, .int (nI (1))), (0, .int (nI (4095)))]) hx hb dJ20_numberOfTrailingZeros_18 rfl hl (by decide) rfl (fun ls hl => ?_)
      refine lv_iload_n hx hb dJ20_numberOfTrailingZeros_19 rfl (lv_at hl 1 rfl) ?_
      refine lv_ldcw (v := nI (65536)) hx hb hown (hts _ q788) dJ20_numberOfTrailingZeros_20 ?_
      refine lv_icmp_le (tgt := 34) hx hb dJ20_numberOfTrailingZeros_23 (by decide) (fun c_58 => ?_) (fun c_58 => ?_)
      · refine lv_iload_n hx hb dJ20_numberOfTrailingZeros_34 rfl (lv_at hl 1 rfl) ?_
        refine lv_sipush (v := nI (256)) hx hb dJ20_numberOfTrailingZeros_35 (by decide) ?_
        refine lv_icmp_le (tgt := 49) hx hb dJ20_numberOfTrailingZeros_38 (by decide) (fun c_59 => ?_) (fun c_59 => ?_)
        · exact absurd c_59 (by decide)
        · refine lv_iinc (v := nI (9)) (lv' := [(1, .int (nI (9))), (0, .int (nI (4095)))]) hx hb dJ20_numberOfTrailingZeros_41 hl (k := 0) rfl (by decide) (by decide) rfl (fun ls hl => ?_)
          refine lv_iload_n hx hb dJ20_numberOfTrailingZeros_44 rfl (lv_at hl 1 rfl) ?_
          refine lv_bipush (v := nI (8)) hx hb dJ20_numberOfTrailingZeros_45 (by decide) ?_
          refine lv_iushr (v := nI (15)) hx hb dJ20_numberOfTrailingZeros_47 (by decide) ?_
          refine lv_istore_n (lv' := [(0, .int (nI (15))), (1, .int (nI (9)))]) hx hb dJ20_numberOfTrailingZeros_48 rfl hl (by decide) rfl (fun ls hl => ?_)
          refine lv_iload_n hx hb dJ20_numberOfTrailingZeros_49 rfl (lv_at hl 0 rfl) ?_
          refine lv_bipush (v := nI (16)) hx hb dJ20_numberOfTrailingZeros_50 (by decide) ?_
          refine lv_icmp_le (tgt := 62) hx hb dJ20_numberOfTrailingZeros_52 (by decide) (fun c_60 => ?_) (fun c_60 => ?_)
          · refine lv_iload_n hx hb dJ20_numberOfTrailingZeros_62 rfl (lv_at hl 0 rfl) ?_
            refine lv_iconst (v := nI (4)) hx hb dJ20_numberOfTrailingZeros_63 (by decide) ?_
            refine lv_icmp_le (tgt := 74) hx hb dJ20_numberOfTrailingZeros_64 (by decide) (fun c_61 => ?_) (fun c_61 => ?_)
            · exact absurd c_61 (by decide)
            · refine lv_iinc (v := nI (11)) (lv' := [(1, .int (nI (11))), (0, .int (nI (15)))]) hx hb dJ20_numberOfTrailingZeros_67 hl (k := 1) rfl (by decide) (by decide) rfl (fun ls hl => ?_)
              refine lv_iload_n hx hb dJ20_numberOfTrailingZeros_70 rfl (lv_at hl 1 rfl) ?_
              refine lv_iconst (v := nI (2)) hx hb dJ20_numberOfTrailingZeros_71 (by decide) ?_
              refine lv_iushr (v := nI (3)) hx hb dJ20_numberOfTrailingZeros_72 (by decide) ?_
              refine lv_istore_n (lv' := [(0, .int (nI (3))), (1, .int (nI (11)))]) hx hb dJ20_numberOfTrailingZeros_73 rfl hl (by decide) rfl (fun ls hl => ?_)
              refine lv_iload_n hx hb dJ20_numberOfTrailingZeros_74 rfl (lv_at hl 1 rfl) ?_
              refine lv_iload_n hx hb dJ20_numberOfTrailingZeros_75 rfl (lv_at hl 0 rfl) ?_
              refine lv_iconst (v := nI (1)) hx hb dJ20_numberOfTrailingZeros_76 (by decide) ?_
              refine lv_iushr (v := nI (1)) hx hb dJ20_numberOfTrailingZeros_77 (by decide) ?_
              refine lv_iadd hx hb dJ20_numberOfTrailingZeros_78 ?_
              refine lv_tope (y := nI (12)) (by decide) ?_
              exact z_iret (v := nI (12)) hx hb hr hS (⟨12, by decide, by decide, hlb⟩) (by omega) (by omega) dJ20_numberOfTrailingZeros_79
          · exact absurd c_60 (by decide)
      · exact absurd c_58 (by decide)
    · exact absurd c_57 (by decide)
  · refine lv_tope (y := nI (8191)) (by decide) ?_
    refine lv_istore_n (lv' := [(0, .int (nI (8191)))]) hx hb dJ20_numberOfTrailingZeros_7 rfl hl (by decide) rfl (fun ls hl => ?_)
    refine lv_iload_n hx hb dJ20_numberOfTrailingZeros_8 rfl (lv_at hl 0 rfl) ?_
    refine lv_if_gt (tgt := 17) hx hb dJ20_numberOfTrailingZeros_9 (by decide) (fun c_62 => ?_) (fun c_62 => ?_)
    · refine lv_iconst (v := nI (1)) hx hb dJ20_numberOfTrailingZeros_17 (by decide) ?_
      refine lv_istore_n (lv' := [(1, .int (nI (1))), (0, .int (nI (8191)))]) hx hb dJ20_numberOfTrailingZeros_18 rfl hl (by decide) rfl (fun ls hl => ?_)
      refine lv_iload_n hx hb dJ20_numberOfTrailingZeros_19 rfl (lv_at hl 1 rfl) ?_
      refine lv_ldcw (v := nI (65536)) hx hb hown (hts _ q788) dJ20_numberOfTrailingZeros_20 ?_
      refine lv_icmp_le (tgt := 34) hx hb dJ20_numberOfTrailingZeros_23 (by decide) (fun c_63 => ?_) (fun c_63 => ?_)
      · refine lv_iload_n hx hb dJ20_numberOfTrailingZeros_34 rfl (lv_at hl 1 rfl) ?_
        refine lv_sipush (v := nI (256)) hx hb dJ20_numberOfTrailingZeros_35 (by decide) ?_
        refine lv_icmp_le (tgt := 49) hx hb dJ20_numberOfTrailingZeros_38 (by decide) (fun c_64 => ?_) (fun c_64 => ?_)
        · exact absurd c_64 (by decide)
        · refine lv_iinc (v := nI (9)) (lv' := [(1, .int (nI (9))), (0, .int (nI (8191)))]) hx hb dJ20_numberOfTrailingZeros_41 hl (k := 0) rfl (by decide) (by decide) rfl (fun ls hl => ?_)
          refine lv_iload_n hx hb dJ20_numberOfTrailingZeros_44 rfl (lv_at hl 1 rfl) ?_
          refine lv_bipush (v := nI (8)) hx hb dJ20_numberOfTrailingZeros_45 (by decide) ?_
          refine lv_iushr (v := nI (31)) hx hb dJ20_numberOfTrailingZeros_47 (by decide) ?_
          refine lv_istore_n (lv' := [(0, .int (nI (31))), (1, .int (nI (9)))]) hx hb dJ20_numberOfTrailingZeros_48 rfl hl (by decide) rfl (fun ls hl => ?_)
          refine lv_iload_n hx hb dJ20_numberOfTrailingZeros_49 rfl (lv_at hl 0 rfl) ?_
          refine lv_bipush (v := nI (16)) hx hb dJ20_numberOfTrailingZeros_50 (by decide) ?_
          refine lv_icmp_le (tgt := 62) hx hb dJ20_numberOfTrailingZeros_52 (by decide) (fun c_65 => ?_) (fun c_65 => ?_)
          · exact absurd c_65 (by decide)
          · refine lv_iinc (v := nI (13)) (lv' := [(1, .int (nI (13))), (0, .int (nI (31)))]) hx hb dJ20_numberOfTrailingZeros_55 hl (k := 1) rfl (by decide) (by decide) rfl (fun ls hl => ?_)
            refine lv_iload_n hx hb dJ20_numberOfTrailingZeros_58 rfl (lv_at hl 1 rfl) ?_
            refine lv_iconst (v := nI (4)) hx hb dJ20_numberOfTrailingZeros_59 (by decide) ?_
            refine lv_iushr (v := nI (1)) hx hb dJ20_numberOfTrailingZeros_60 (by decide) ?_
            refine lv_istore_n (lv' := [(0, .int (nI (1))), (1, .int (nI (13)))]) hx hb dJ20_numberOfTrailingZeros_61 rfl hl (by decide) rfl (fun ls hl => ?_)
            refine lv_iload_n hx hb dJ20_numberOfTrailingZeros_62 rfl (lv_at hl 0 rfl) ?_
            refine lv_iconst (v := nI (4)) hx hb dJ20_numberOfTrailingZeros_63 (by decide) ?_
            refine lv_icmp_le (tgt := 74) hx hb dJ20_numberOfTrailingZeros_64 (by decide) (fun c_66 => ?_) (fun c_66 => ?_)
            · refine lv_iload_n hx hb dJ20_numberOfTrailingZeros_74 rfl (lv_at hl 1 rfl) ?_
              refine lv_iload_n hx hb dJ20_numberOfTrailingZeros_75 rfl (lv_at hl 0 rfl) ?_
              refine lv_iconst (v := nI (1)) hx hb dJ20_numberOfTrailingZeros_76 (by decide) ?_
              refine lv_iushr (v := nI (0)) hx hb dJ20_numberOfTrailingZeros_77 (by decide) ?_
              refine lv_iadd hx hb dJ20_numberOfTrailingZeros_78 ?_
              refine lv_tope (y := nI (13)) (by decide) ?_
              exact z_iret (v := nI (13)) hx hb hr hS (⟨13, by decide, by decide, hlb⟩) (by omega) (by omega) dJ20_numberOfTrailingZeros_79
            · exact absurd c_66 (by decide)
      · exact absurd c_63 (by decide)
    · exact absurd c_62 (by decide)
  · refine lv_tope (y := nI (16383)) (by decide) ?_
    refine lv_istore_n (lv' := [(0, .int (nI (16383)))]) hx hb dJ20_numberOfTrailingZeros_7 rfl hl (by decide) rfl (fun ls hl => ?_)
    refine lv_iload_n hx hb dJ20_numberOfTrailingZeros_8 rfl (lv_at hl 0 rfl) ?_
    refine lv_if_gt (tgt := 17) hx hb dJ20_numberOfTrailingZeros_9 (by decide) (fun c_67 => ?_) (fun c_67 => ?_)
    · refine lv_iconst (v := nI (1)) hx hb dJ20_numberOfTrailingZeros_17 (by decide) ?_
      refine lv_istore_n (lv' := [(1, .int (nI (1))), (0, .int (nI (16383)))]) hx hb dJ20_numberOfTrailingZeros_18 rfl hl (by decide) rfl (fun ls hl => ?_)
      refine lv_iload_n hx hb dJ20_numberOfTrailingZeros_19 rfl (lv_at hl 1 rfl) ?_
      refine lv_ldcw (v := nI (65536)) hx hb hown (hts _ q788) dJ20_numberOfTrailingZeros_20 ?_
      refine lv_icmp_le (tgt := 34) hx hb dJ20_numberOfTrailingZeros_23 (by decide) (fun c_68 => ?_) (fun c_68 => ?_)
      · refine lv_iload_n hx hb dJ20_numberOfTrailingZeros_34 rfl (lv_at hl 1 rfl) ?_
        refine lv_sipush (v := nI (256)) hx hb dJ20_numberOfTrailingZeros_35 (by decide) ?_
        refine lv_icmp_le (tgt := 49) hx hb dJ20_numberOfTrailingZeros_38 (by decide) (fun c_69 => ?_) (fun c_69 => ?_)
        · exact absurd c_69 (by decide)
        · refine lv_iinc (v := nI (9)) (lv' := [(1, .int (nI (9))), (0, .int (nI (16383)))]) hx hb dJ20_numberOfTrailingZeros_41 hl (k := 0) rfl (by decide) (by decide) rfl (fun ls hl => ?_)
          refine lv_iload_n hx hb dJ20_numberOfTrailingZeros_44 rfl (lv_at hl 1 rfl) ?_
          refine lv_bipush (v := nI (8)) hx hb dJ20_numberOfTrailingZeros_45 (by decide) ?_
          refine lv_iushr (v := nI (63)) hx hb dJ20_numberOfTrailingZeros_47 (by decide) ?_
          refine lv_istore_n (lv' := [(0, .int (nI (63))), (1, .int (nI (9)))]) hx hb dJ20_numberOfTrailingZeros_48 rfl hl (by decide) rfl (fun ls hl => ?_)
          refine lv_iload_n hx hb dJ20_numberOfTrailingZeros_49 rfl (lv_at hl 0 rfl) ?_
          refine lv_bipush (v := nI (16)) hx hb dJ20_numberOfTrailingZeros_50 (by decide) ?_
          refine lv_icmp_le (tgt := 62) hx hb dJ20_numberOfTrailingZeros_52 (by decide) (fun c_70 => ?_) (fun c_70 => ?_)
          · exact absurd c_70 (by decide)
          · refine lv_iinc (v := nI (13)) (lv' := [(1, .int (nI (13))), (0, .int (nI (63)))]) hx hb dJ20_numberOfTrailingZeros_55 hl (k := 1) rfl (by decide) (by decide) rfl (fun ls hl => ?_)
            refine lv_iload_n hx hb dJ20_numberOfTrailingZeros_58 rfl (lv_at hl 1 rfl) ?_
            refine lv_iconst (v := nI (4)) hx hb dJ20_numberOfTrailingZeros_59 (by decide) ?_
            refine lv_iushr (v := nI (3)) hx hb dJ20_numberOfTrailingZeros_60 (by decide) ?_
            refine lv_istore_n (lv' := [(0, .int (nI (3))), (1, .int (nI (13)))]) hx hb dJ20_numberOfTrailingZeros_61 rfl hl (by decide) rfl (fun ls hl => ?_)
            refine lv_iload_n hx hb dJ20_numberOfTrailingZeros_62 rfl (lv_at hl 0 rfl) ?_
            refine lv_iconst (v := nI (4)) hx hb dJ20_numberOfTrailingZeros_63 (by decide) ?_
            refine lv_icmp_le (tgt := 74) hx hb dJ20_numberOfTrailingZeros_64 (by decide) (fun c_71 => ?_) (fun c_71 => ?_)
            · refine lv_iload_n hx hb dJ20_numberOfTrailingZeros_74 rfl (lv_at hl 1 rfl) ?_
              refine lv_iload_n hx hb dJ20_numberOfTrailingZeros_75 rfl (lv_at hl 0 rfl) ?_
              refine lv_iconst (v := nI (1)) hx hb dJ20_numberOfTrailingZeros_76 (by decide) ?_
              refine lv_iushr (v := nI (1)) hx hb dJ20_numberOfTrailingZeros_77 (by decide) ?_
              refine lv_iadd hx hb dJ20_numberOfTrailingZeros_78 ?_
              refine lv_tope (y := nI (14)) (by decide) ?_
              exact z_iret (v := nI (14)) hx hb hr hS (⟨14, by decide, by decide, hlb⟩) (by omega) (by omega) dJ20_numberOfTrailingZeros_79
            · exact absurd c_71 (by decide)
      · exact absurd c_68 (by decide)
    · exact absurd c_67 (by decide)
  · refine lv_tope (y := nI (32767)) (by decide) ?_
    refine lv_istore_n (lv' := [(0, .int (nI (32767)))]) hx hb dJ20_numberOfTrailingZeros_7 rfl hl (by decide) rfl (fun ls hl => ?_)
    refine lv_iload_n hx hb dJ20_numberOfTrailingZeros_8 rfl (lv_at hl 0 rfl) ?_
    refine lv_if_gt (tgt := 17) hx hb dJ20_numberOfTrailingZeros_9 (by decide) (fun c_72 => ?_) (fun c_72 => ?_)
    · refine lv_iconst (v := nI (1)) hx hb dJ20_numberOfTrailingZeros_17 (by decide) ?_
      refine lv_istore_n (lv' := [(1, .int (nI (1))), (0, .int (nI (32767)))]) hx hb dJ20_numberOfTrailingZeros_18 rfl hl (by decide) rfl (fun ls hl => ?_)
      refine lv_iload_n hx hb dJ20_numberOfTrailingZeros_19 rfl (lv_at hl 1 rfl) ?_
      refine lv_ldcw (v := nI (65536)) hx hb hown (hts _ q788) dJ20_numberOfTrailingZeros_20 ?_
      refine lv_icmp_le (tgt := 34) hx hb dJ20_numberOfTrailingZeros_23 (by decide) (fun c_73 => ?_) (fun c_73 => ?_)
      · refine lv_iload_n hx hb dJ20_numberOfTrailingZeros_34 rfl (lv_at hl 1 rfl) ?_
        refine lv_sipush (v := nI (256)) hx hb dJ20_numberOfTrailingZeros_35 (by decide) ?_
        refine lv_icmp_le (tgt := 49) hx hb dJ20_numberOfTrailingZeros_38 (by decide) (fun c_74 => ?_) (fun c_74 => ?_)
        · exact absurd c_74 (by decide)
        · refine lv_iinc (v := nI (9)) (lv' := [(1, .int (nI (9))), (0, .int (nI (32767)))]) hx hb dJ20_numberOfTrailingZeros_41 hl (k := 0) rfl (by decide) (by decide) rfl (fun ls hl => ?_)
          refine lv_iload_n hx hb dJ20_numberOfTrailingZeros_44 rfl (lv_at hl 1 rfl) ?_
          refine lv_bipush (v := nI (8)) hx hb dJ20_numberOfTrailingZeros_45 (by decide) ?_
          refine lv_iushr (v := nI (127)) hx hb dJ20_numberOfTrailingZeros_47 (by decide) ?_
          refine lv_istore_n (lv' := [(0, .int (nI (127))), (1, .int (nI (9)))]) hx hb dJ20_numberOfTrailingZeros_48 rfl hl (by decide) rfl (fun ls hl => ?_)
          refine lv_iload_n hx hb dJ20_numberOfTrailingZeros_49 rfl (lv_at hl 0 rfl) ?_
          refine lv_bipush (v := nI (16)) hx hb dJ20_numberOfTrailingZeros_50 (by decide) ?_
          refine lv_icmp_le (tgt := 62) hx hb dJ20_numberOfTrailingZeros_52 (by decide) (fun c_75 => ?_) (fun c_75 => ?_)
          · exact absurd c_75 (by decide)
          · refine lv_iinc (v := nI (13)) (lv' := [(1, .int (nI (13))), (0, .int (nI (127)))]) hx hb dJ20_numberOfTrailingZeros_55 hl (k := 1) rfl (by decide) (by decide) rfl (fun ls hl => ?_)
            refine lv_iload_n hx hb dJ20_numberOfTrailingZeros_58 rfl (lv_at hl 1 rfl) ?_
            refine lv_iconst (v := nI (4)) hx hb dJ20_numberOfTrailingZeros_59 (by decide) ?_
            refine lv_iushr (v := nI (7)) hx hb dJ20_numberOfTrailingZeros_60 (by decide) ?_
            refine lv_istore_n (lv' := [(0, .int (nI (7))), (1, .int (nI (13)))]) hx hb dJ20_numberOfTrailingZeros_61 rfl hl (by decide) rfl (fun ls hl => ?_)
            refine lv_iload_n hx hb dJ20_numberOfTrailingZeros_62 rfl (lv_at hl 0 rfl) ?_
            refine lv_iconst (v := nI (4)) hx hb dJ20_numberOfTrailingZeros_63 (by decide) ?_
            refine lv_icmp_le (tgt := 74) hx hb dJ20_numberOfTrailingZeros_64 (by decide) (fun c_76 => ?_) (fun c_76 => ?_)
            · exact absurd c_76 (by decide)
            · refine lv_iinc (v := nI (15)) (lv' := [(1, .int (nI (15))), (0, .int (nI (7)))]) hx hb dJ20_numberOfTrailingZeros_67 hl (k := 1) rfl (by decide) (by decide) rfl (fun ls hl => ?_)
              refine lv_iload_n hx hb dJ20_numberOfTrailingZeros_70 rfl (lv_at hl 1 rfl) ?_
              refine lv_iconst (v := nI (2)) hx hb dJ20_numberOfTrailingZeros_71 (by decide) ?_
              refine lv_iushr (v := nI (1)) hx hb dJ20_numberOfTrailingZeros_72 (by decide) ?_
              refine lv_istore_n (lv' := [(0, .int (nI (1))), (1, .int (nI (15)))]) hx hb dJ20_numberOfTrailingZeros_73 rfl hl (by decide) rfl (fun ls hl => ?_)
              refine lv_iload_n hx hb dJ20_numberOfTrailingZeros_74 rfl (lv_at hl 1 rfl) ?_
              refine lv_iload_n hx hb dJ20_numberOfTrailingZeros_75 rfl (lv_at hl 0 rfl) ?_
              refine lv_iconst (v := nI (1)) hx hb dJ20_numberOfTrailingZeros_76 (by decide) ?_
              refine lv_iushr (v := nI (0)) hx hb dJ20_numberOfTrailingZeros_77 (by decide) ?_
              refine lv_iadd hx hb dJ20_numberOfTrailingZeros_78 ?_
              refine lv_tope (y := nI (15)) (by decide) ?_
              exact z_iret (v := nI (15)) hx hb hr hS (⟨15, by decide, by decide, hlb⟩) (by omega) (by omega) dJ20_numberOfTrailingZeros_79
      · exact absurd c_73 (by decide)
    · exact absurd c_72 (by decide)
  · refine lv_tope (y := nI (65535)) (by decide) ?_
    refine lv_istore_n (lv' := [(0, .int (nI (65535)))]) hx hb dJ20_numberOfTrailingZeros_7 rfl hl (by decide) rfl (fun ls hl => ?_)
    refine lv_iload_n hx hb dJ20_numberOfTrailingZeros_8 rfl (lv_at hl 0 rfl) ?_
    refine lv_if_gt (tgt := 17) hx hb dJ20_numberOfTrailingZeros_9 (by decide) (fun c_77 => ?_) (fun c_77 => ?_)
    · refine lv_iconst (v := nI (1)) hx hb dJ20_numberOfTrailingZeros_17 (by decide) ?_
      refine lv_istore_n (lv' := [(1, .int (nI (1))), (0, .int (nI (65535)))]) hx hb dJ20_numberOfTrailingZeros_18 rfl hl (by decide) rfl (fun ls hl => ?_)
      refine lv_iload_n hx hb dJ20_numberOfTrailingZeros_19 rfl (lv_at hl 1 rfl) ?_
      refine lv_ldcw (v := nI (65536)) hx hb hown (hts _ q788) dJ20_numberOfTrailingZeros_20 ?_
      refine lv_icmp_le (tgt := 34) hx hb dJ20_numberOfTrailingZeros_23 (by decide) (fun c_78 => ?_) (fun c_78 => ?_)
      · refine lv_iload_n hx hb dJ20_numberOfTrailingZeros_34 rfl (lv_at hl 1 rfl) ?_
        refine lv_sipush (v := nI (256)) hx hb dJ20_numberOfTrailingZeros_35 (by decide) ?_
        refine lv_icmp_le (tgt := 49) hx hb dJ20_numberOfTrailingZeros_38 (by decide) (fun c_79 => ?_) (fun c_79 => ?_)
        · exact absurd c_79 (by decide)
        · refine lv_iinc (v := nI (9)) (lv' := [(1, .int (nI (9))), (0, .int (nI (65535)))]) hx hb dJ20_numberOfTrailingZeros_41 hl (k := 0) rfl (by decide) (by decide) rfl (fun ls hl => ?_)
          refine lv_iload_n hx hb dJ20_numberOfTrailingZeros_44 rfl (lv_at hl 1 rfl) ?_
          refine lv_bipush (v := nI (8)) hx hb dJ20_numberOfTrailingZeros_45 (by decide) ?_
          refine lv_iushr (v := nI (255)) hx hb dJ20_numberOfTrailingZeros_47 (by decide) ?_
          refine lv_istore_n (lv' := [(0, .int (nI (255))), (1, .int (nI (9)))]) hx hb dJ20_numberOfTrailingZeros_48 rfl hl (by decide) rfl (fun ls hl => ?_)
          refine lv_iload_n hx hb dJ20_numberOfTrailingZeros_49 rfl (lv_at hl 0 rfl) ?_
          refine lv_bipush (v := nI (16)) hx hb dJ20_numberOfTrailingZeros_50 (by decide) ?_
          refine lv_icmp_le (tgt := 62) hx hb dJ20_numberOfTrailingZeros_52 (by decide) (fun c_80 => ?_) (fun c_80 => ?_)
          · exact absurd c_80 (by decide)
          · refine lv_iinc (v := nI (13)) (lv' := [(1, .int (nI (13))), (0, .int (nI (255)))]) hx hb dJ20_numberOfTrailingZeros_55 hl (k := 1) rfl (by decide) (by decide) rfl (fun ls hl => ?_)
            refine lv_iload_n hx hb dJ20_numberOfTrailingZeros_58 rfl (lv_at hl 1 rfl) ?_
            refine lv_iconst (v := nI (4)) hx hb dJ20_numberOfTrailingZeros_59 (by decide) ?_
            refine lv_iushr (v := nI (15)) hx hb dJ20_numberOfTrailingZeros_60 (by decide) ?_
            refine lv_istore_n (lv' := [(0, .int (nI (15))), (1, .int (nI (13)))]) hx hb dJ20_numberOfTrailingZeros_61 rfl hl (by decide) rfl (fun ls hl => ?_)
            refine lv_iload_n hx hb dJ20_numberOfTrailingZeros_62 rfl (lv_at hl 0 rfl) ?_
            refine lv_iconst (v := nI (4)) hx hb dJ20_numberOfTrailingZeros_63 (by decide) ?_
            refine lv_icmp_le (tgt := 74) hx hb dJ20_numberOfTrailingZeros_64 (by decide) (fun c_81 => ?_) (fun c_81 => ?_)
            · exact absurd c_81 (by decide)
            · refine lv_iinc (v := nI (15)) (lv' := [(1, .int (nI (15))), (0, .int (nI (15)))]) hx hb dJ20_numberOfTrailingZeros_67 hl (k := 1) rfl (by decide) (by decide) rfl (fun ls hl => ?_)
              refine lv_iload_n hx hb dJ20_numberOfTrailingZeros_70 rfl (lv_at hl 1 rfl) ?_
              refine lv_iconst (v := nI (2)) hx hb dJ20_numberOfTrailingZeros_71 (by decide) ?_
              refine lv_iushr (v := nI (3)) hx hb dJ20_numberOfTrailingZeros_72 (by decide) ?_
              refine lv_istore_n (lv' := [(0, .int (nI (3))), (1, .int (nI (15)))]) hx hb dJ20_numberOfTrailingZeros_73 rfl hl (by decide) rfl (fun ls hl => ?_)
              refine lv_iload_n hx hb dJ20_numberOfTrailingZeros_74 rfl (lv_at hl 1 rfl) ?_
              refine lv_iload_n hx hb dJ20_numberOfTrailingZeros_75 rfl (lv_at hl 0 rfl) ?_
              refine lv_iconst (v := nI (1)) hx hb dJ20_numberOfTrailingZeros_76 (by decide) ?_
              refine lv_iushr (v := nI (1)) hx hb dJ20_numberOfTrailingZeros_77 (by decide) ?_
              refine lv_iadd hx hb dJ20_numberOfTrailingZeros_78 ?_
              refine lv_tope (y := nI (16)) (by decide) ?_
              exact z_iret (v := nI (16)) hx hb hr hS (⟨16, by decide, by decide, hlb⟩) (by omega) (by omega) dJ20_numberOfTrailingZeros_79
      · exact absurd c_78 (by decide)
    · exact absurd c_77 (by decide)
  · refine lv_tope (y := nI (131071)) (by decide) ?_
    refine lv_istore_n (lv' := [(0, .int (nI (131071)))]) hx hb dJ20_numberOfTrailingZeros_7 rfl hl (by decide) rfl (fun ls hl => ?_)
    refine lv_iload_n hx hb dJ20_numberOfTrailingZeros_8 rfl (lv_at hl 0 rfl) ?_
    refine lv_if_gt (tgt := 17) hx hb dJ20_numberOfTrailingZeros_9 (by decide) (fun c_82 => ?_) (fun c_82 => ?_)
    · refine lv_iconst (v := nI (1)) hx hb dJ20_numberOfTrailingZeros_17 (by decide) ?_
      refine lv_istore_n (lv' := [(1, .int (nI (1))), (0, .int (nI (131071)))]) hx hb dJ20_numberOfTrailingZeros_18 rfl hl (by decide) rfl (fun ls hl => ?_)
      refine lv_iload_n hx hb dJ20_numberOfTrailingZeros_19 rfl (lv_at hl 1 rfl) ?_
      refine lv_ldcw (v := nI (65536)) hx hb hown (hts _ q788) dJ20_numberOfTrailingZeros_20 ?_
      refine lv_icmp_le (tgt := 34) hx hb dJ20_numberOfTrailingZeros_23 (by decide) (fun c_83 => ?_) (fun c_83 => ?_)
      · exact absurd c_83 (by decide)
      · refine lv_iinc (v := nI (17)) (lv' := [(1, .int (nI (17))), (0, .int (nI (131071)))]) hx hb dJ20_numberOfTrailingZeros_26 hl (k := 0) rfl (by decide) (by decide) rfl (fun ls hl => ?_)
        refine lv_iload_n hx hb dJ20_numberOfTrailingZeros_29 rfl (lv_at hl 1 rfl) ?_
        refine lv_bipush (v := nI (16)) hx hb dJ20_numberOfTrailingZeros_30 (by decide) ?_
        refine lv_iushr (v := nI (1)) hx hb dJ20_numberOfTrailingZeros_32 (by decide) ?_
        refine lv_istore_n (lv' := [(0, .int (nI (1))), (1, .int (nI (17)))]) hx hb dJ20_numberOfTrailingZeros_33 rfl hl (by decide) rfl (fun ls hl => ?_)
        refine lv_iload_n hx hb dJ20_numberOfTrailingZeros_34 rfl (lv_at hl 0 rfl) ?_
        refine lv_sipush (v := nI (256)) hx hb dJ20_numberOfTrailingZeros_35 (by decide) ?_
        refine lv_icmp_le (tgt := 49) hx hb dJ20_numberOfTrailingZeros_38 (by decide) (fun c_84 => ?_) (fun c_84 => ?_)
        · refine lv_iload_n hx hb dJ20_numberOfTrailingZeros_49 rfl (lv_at hl 0 rfl) ?_
          refine lv_bipush (v := nI (16)) hx hb dJ20_numberOfTrailingZeros_50 (by decide) ?_
          refine lv_icmp_le (tgt := 62) hx hb dJ20_numberOfTrailingZeros_52 (by decide) (fun c_85 => ?_) (fun c_85 => ?_)
          · refine lv_iload_n hx hb dJ20_numberOfTrailingZeros_62 rfl (lv_at hl 0 rfl) ?_
            refine lv_iconst (v := nI (4)) hx hb dJ20_numberOfTrailingZeros_63 (by decide) ?_
            refine lv_icmp_le (tgt := 74) hx hb dJ20_numberOfTrailingZeros_64 (by decide) (fun c_86 => ?_) (fun c_86 => ?_)
            · refine lv_iload_n hx hb dJ20_numberOfTrailingZeros_74 rfl (lv_at hl 1 rfl) ?_
              refine lv_iload_n hx hb dJ20_numberOfTrailingZeros_75 rfl (lv_at hl 0 rfl) ?_
              refine lv_iconst (v := nI (1)) hx hb dJ20_numberOfTrailingZeros_76 (by decide) ?_
              refine lv_iushr (v := nI (0)) hx hb dJ20_numberOfTrailingZeros_77 (by decide) ?_
              refine lv_iadd hx hb dJ20_numberOfTrailingZeros_78 ?_
              refine lv_tope (y := nI (17)) (by decide) ?_
              exact z_iret (v := nI (17)) hx hb hr hS (⟨17, by decide, by decide, hlb⟩) (by omega) (by omega) dJ20_numberOfTrailingZeros_79
            · exact absurd c_86 (by decide)
          · exact absurd c_85 (by decide)
        · exact absurd c_84 (by decide)
    · exact absurd c_82 (by decide)
  · refine lv_tope (y := nI (262143)) (by decide) ?_
    refine lv_istore_n (lv' := [(0, .int (nI (262143)))]) hx hb dJ20_numberOfTrailingZeros_7 rfl hl (by decide) rfl (fun ls hl => ?_)
    refine lv_iload_n hx hb dJ20_numberOfTrailingZeros_8 rfl (lv_at hl 0 rfl) ?_
    refine lv_if_gt (tgt := 17) hx hb dJ20_numberOfTrailingZeros_9 (by decide) (fun c_87 => ?_) (fun c_87 => ?_)
    · refine lv_iconst (v := nI (1)) hx hb dJ20_numberOfTrailingZeros_17 (by decide) ?_
      refine lv_istore_n (lv' := [(1, .int (nI (1))), (0, .int (nI (262143)))]) hx hb dJ20_numberOfTrailingZeros_18 rfl hl (by decide) rfl (fun ls hl => ?_)
      refine lv_iload_n hx hb dJ20_numberOfTrailingZeros_19 rfl (lv_at hl 1 rfl) ?_
      refine lv_ldcw (v := nI (65536)) hx hb hown (hts _ q788) dJ20_numberOfTrailingZeros_20 ?_
      refine lv_icmp_le (tgt := 34) hx hb dJ20_numberOfTrailingZeros_23 (by decide) (fun c_88 => ?_) (fun c_88 => ?_)
      · exact absurd c_88 (by decide)
      · refine lv_iinc (v := nI (17)) (lv' := [(1, .int (nI (17))), (0, .int (nI (262143)))]) hx hb dJ20_numberOfTrailingZeros_26 hl (k := 0) rfl (by decide) (by decide) rfl (fun ls hl => ?_)
        refine lv_iload_n hx hb dJ20_numberOfTrailingZeros_29 rfl (lv_at hl 1 rfl) ?_
        refine lv_bipush (v := nI (16)) hx hb dJ20_numberOfTrailingZeros_30 (by decide) ?_
        refine lv_iushr (v := nI (3)) hx hb dJ20_numberOfTrailingZeros_32 (by decide) ?_
        refine lv_istore_n (lv' := [(0, .int (nI (3))), (1, .int (nI (17)))]) hx hb dJ20_numberOfTrailingZeros_33 rfl hl (by decide) rfl (fun ls hl => ?_)
        refine lv_iload_n hx hb dJ20_numberOfTrailingZeros_34 rfl (lv_at hl 0 rfl) ?_
        refine lv_sipush (v := nI (256)) hx hb dJ20_numberOfTrailingZeros_35 (by decide) ?_
        refine lv_icmp_le (tgt := 49) hx hb dJ20_numberOfTrailingZeros_38 (by decide) (fun c_89 => ?_) (fun c_89 => ?_)
        · refine lv_iload_n hx hb dJ20_numberOfTrailingZeros_49 rfl (lv_at hl 0 rfl) ?_
          refine lv_bipush (v := nI (16)) hx hb dJ20_numberOfTrailingZeros_50 (by decide) ?_
          refine lv_icmp_le (tgt := 62) hx hb dJ20_numberOfTrailingZeros_52 (by decide) (fun c_90 => ?_) (fun c_90 => ?_)
          · refine lv_iload_n hx hb dJ20_numberOfTrailingZeros_62 rfl (lv_at hl 0 rfl) ?_
            refine lv_iconst (v := nI (4)) hx hb dJ20_numberOfTrailingZeros_63 (by decide) ?_
            refine lv_icmp_le (tgt := 74) hx hb dJ20_numberOfTrailingZeros_64 (by decide) (fun c_91 => ?_) (fun c_91 => ?_)
            · refine lv_iload_n hx hb dJ20_numberOfTrailingZeros_74 rfl (lv_at hl 1 rfl) ?_
              refine lv_iload_n hx hb dJ20_numberOfTrailingZeros_75 rfl (lv_at hl 0 rfl) ?_
              refine lv_iconst (v := nI (1)) hx hb dJ20_numberOfTrailingZeros_76 (by decide) ?_
              refine lv_iushr (v := nI (1)) hx hb dJ20_numberOfTrailingZeros_77 (by decide) ?_
              refine lv_iadd hx hb dJ20_numberOfTrailingZeros_78 ?_
              refine lv_tope (y := nI (18)) (by decide) ?_
              exact z_iret (v := nI (18)) hx hb hr hS (⟨18, by decide, by decide, hlb⟩) (by omega) (by omega) dJ20_numberOfTrailingZeros_79
            · exact absurd c_91 (by decide)
          · exact absurd c_90 (by decide)
        · exact absurd c_89 (by decide)
    · exact absurd c_87 (by decide)
  · refine lv_tope (y := nI (524287)) (by decide) ?_
    refine lv_istore_n (lv' := [(0, .int (nI (524287)))]) hx hb dJ20_numberOfTrailingZeros_7 rfl hl (by decide) rfl (fun ls hl => ?_)
    refine lv_iload_n hx hb dJ20_numberOfTrailingZeros_8 rfl (lv_at hl 0 rfl) ?_
    refine lv_if_gt (tgt := 17) hx hb dJ20_numberOfTrailingZeros_9 (by decide) (fun c_92 => ?_) (fun c_92 => ?_)
    · refine lv_iconst (v := nI (1)) hx hb dJ20_numberOfTrailingZeros_17 (by decide) ?_
      refine lv_istore_n (lv' := [(1, .int (nI (1))), (0, .int (nI (524287)))]) hx hb dJ20_numberOfTrailingZeros_18 rfl hl (by decide) rfl (fun ls hl => ?_)
      refine lv_iload_n hx hb dJ20_numberOfTrailingZeros_19 rfl (lv_at hl 1 rfl) ?_
      refine lv_ldcw (v := nI (65536)) hx hb hown (hts _ q788) dJ20_numberOfTrailingZeros_20 ?_
      refine lv_icmp_le (tgt := 34) hx hb dJ20_numberOfTrailingZeros_23 (by decide) (fun c_93 => ?_) (fun c_93 => ?_)
      · exact absurd c_93 (by decide)
      · refine lv_iinc (v := nI (17)) (lv' := [(1, .int (nI (17))), (0, .int (nI (524287)))]) hx hb dJ20_numberOfTrailingZeros_26 hl (k := 0) rfl (by decide) (by decide) rfl (fun ls hl => ?_)
        refine lv_iload_n hx hb dJ20_numberOfTrailingZeros_29 rfl (lv_at hl 1 rfl) ?_
        refine lv_bipush (v := nI (16)) hx hb dJ20_numberOfTrailingZeros_30 (by decide) ?_
        refine lv_iushr (v := nI (7)) hx hb dJ20_numberOfTrailingZeros_32 (by decide) ?_
        refine lv_istore_n (lv' := [(0, .int (nI (7))), (1, .int (nI (17)))]) hx hb dJ20_numberOfTrailingZeros_33 rfl hl (by decide) rfl (fun ls hl => ?_)
        refine lv_iload_n hx hb dJ20_numberOfTrailingZeros_34 rfl (lv_at hl 0 rfl) ?_
        refine lv_sipush (v := nI (256)) hx hb dJ20_numberOfTrailingZeros_35 (by decide) ?_
        refine lv_icmp_le (tgt := 49) hx hb dJ20_numberOfTrailingZeros_38 (by decide) (fun c_94 => ?_) (fun c_94 => ?_)
        · refine lv_iload_n hx hb dJ20_numberOfTrailingZeros_49 rfl (lv_at hl 0 rfl) ?_
          refine lv_bipush (v := nI (16)) hx hb dJ20_numberOfTrailingZeros_50 (by decide) ?_
          refine lv_icmp_le (tgt := 62) hx hb dJ20_numberOfTrailingZeros_52 (by decide) (fun c_95 => ?_) (fun c_95 => ?_)
          · refine lv_iload_n hx hb dJ20_numberOfTrailingZeros_62 rfl (lv_at hl 0 rfl) ?_
            refine lv_iconst (v := nI (4)) hx hb dJ20_numberOfTrailingZeros_63 (by decide) ?_
            refine lv_icmp_le (tgt := 74) hx hb dJ20_numberOfTrailingZeros_64 (by decide) (fun c_96 => ?_) (fun c_96 => ?_)
            · exact absurd c_96 (by decide)
            · refine lv_iinc (v := nI (19)) (lv' := [(1, .int (nI (19))), (0, .int (nI (7)))]) hx hb dJ20_numberOfTrailingZeros_67 hl (k := 1) rfl (by decide) (by decide) rfl (fun ls hl => ?_)
              refine lv_iload_n hx hb dJ20_numberOfTrailingZeros_70 rfl (lv_at hl 1 rfl) ?_
              refine lv_iconst (v := nI (2)) hx hb dJ20_numberOfTrailingZeros_71 (by decide) ?_
              refine lv_iushr (v := nI (1)) hx hb dJ20_numberOfTrailingZeros_72 (by decide) ?_
              refine lv_istore_n (lv' := [(0, .int (nI (1))), (1, .int (nI (19)))]) hx hb dJ20_numberOfTrailingZeros_73 rfl hl (by decide) rfl (fun ls hl => ?_)
              refine lv_iload_n hx hb dJ20_numberOfTrailingZeros_74 rfl (lv_at hl 1 rfl) ?_
              refine lv_iload_n hx hb dJ20_numberOfTrailingZeros_75 rfl (lv_at hl 0 rfl) ?_
              refine lv_iconst (v := nI (1)) hx hb dJ20_numberOfTrailingZeros_76 (by decide) ?_
              refine lv_iushr (v := nI (0)) hx hb dJ20_numberOfTrailingZeros_77 (by decide) ?_
              refine lv_iadd hx hb dJ20_numberOfTrailingZeros_78 ?_
              refine lv_tope (y := nI (19)) (by decide) ?_
              exact z_iret (v := nI (19)) hx hb hr hS (⟨19, by decide, by decide, hlb⟩) (by omega) (by omega) dJ20_numberOfTrailingZeros_79
          · exact absurd c_95 (by decide)
        · exact absurd c_94 (by decide)
    · exact absurd c_92 (by decide)
  · refine lv_tope (y := nI (1048575)) (by decide) ?_
    refine lv_istore_n (lv' := [(0, .int (nI (1048575)))]) hx hb dJ20_numberOfTrailingZeros_7 rfl hl (by decide) rfl (fun ls hl => ?_)
    refine lv_iload_n hx hb dJ20_numberOfTrailingZeros_8 rfl (lv_at hl 0 rfl) ?_
    refine lv_if_gt (tgt := 17) hx hb dJ20_numberOfTrailingZeros_9 (by decide) (fun c_97 => ?_) (fun c_97 => ?_)
    · refine lv_iconst (v := nI (1)) hx hb dJ20_numberOfTrailingZeros_17 (by decide) ?_
      refine lv_istore_n (lv' := [(1, .int (nI (1))), (0, .int (nI (1048575)))]) hx hb dJ20_numberOfTrailingZeros_18 rfl hl (by decide) rfl (fun ls hl => ?_)
      refine lv_iload_n hx hb dJ20_numberOfTrailingZeros_19 rfl (lv_at hl 1 rfl) ?_
      refine lv_ldcw (v := nI (65536)) hx hb hown (hts _ q788) dJ20_numberOfTrailingZeros_20 ?_
      refine lv_icmp_le (tgt := 34) hx hb dJ20_numberOfTrailingZeros_23 (by decide) (fun c_98 => ?_) (fun c_98 => ?_)
      · exact absurd c_98 (by decide)
      · refine lv_iinc (v := nI (17)) (lv' := [(1, .int (nI (17))), (0, .int (nI (1048575)))]) hx hb dJ20_numberOfTrailingZeros_26 hl (k := 0) rfl (by decide) (by decide) rfl (fun ls hl => ?_)
        refine lv_iload_n hx hb dJ20_numberOfTrailingZeros_29 rfl (lv_at hl 1 rfl) ?_
        refine lv_bipush (v := nI (16)) hx hb dJ20_numberOfTrailingZeros_30 (by decide) ?_
        refine lv_iushr (v := nI (15)) hx hb dJ20_numberOfTrailingZeros_32 (by decide) ?_
        refine lv_istore_n (lv' := [(0, .int (nI (15))), (1, .int (nI (17)))]) hx hb dJ20_numberOfTrailingZeros_33 rfl hl (by decide) rfl (fun ls hl => ?_)
        refine lv_iload_n hx hb dJ20_numberOfTrailingZeros_34 rfl (lv_at hl 0 rfl) ?_
        refine lv_sipush (v := nI (256)) hx hb dJ20_numberOfTrailingZeros_35 (by decide) ?_
        refine lv_icmp_le (tgt := 49) hx hb dJ20_numberOfTrailingZeros_38 (by decide) (fun c_99 => ?_) (fun c_99 => ?_)
        · refine lv_iload_n hx hb dJ20_numberOfTrailingZeros_49 rfl (lv_at hl 0 rfl) ?_
          refine lv_bipush (v := nI (16)) hx hb dJ20_numberOfTrailingZeros_50 (by decide) ?_
          refine lv_icmp_le (tgt := 62) hx hb dJ20_numberOfTrailingZeros_52 (by decide) (fun c_100 => ?_) (fun c_100 => ?_)
          · refine lv_iload_n hx hb dJ20_numberOfTrailingZeros_62 rfl (lv_at hl 0 rfl) ?_
            refine lv_iconst (v := nI (4)) hx hb dJ20_numberOfTrailingZeros_63 (by decide) ?_
            refine lv_icmp_le (tgt := 74) hx hb dJ20_numberOfTrailingZeros_64 (by decide) (fun c_101 => ?_) (fun c_101 => ?_)
            · exact absurd c_101 (by decide)
            · refine lv_iinc (v := nI (19)) (lv' := [(1, .int (nI (19))), (0, .int (nI (15)))]) hx hb dJ20_numberOfTrailingZeros_67 hl (k := 1) rfl (by decide) (by decide) rfl (fun ls hl => ?_)
              refine lv_iload_n hx hb dJ20_numberOfTrailingZeros_70 rfl (lv_at hl 1 rfl) ?_
              refine lv_iconst (v := nI (2)) hx hb dJ20_numberOfTrailingZeros_71 (by decide) ?_
              refine lv_iushr (v := nI (3)) hx hb dJ20_numberOfTrailingZeros_72 (by decide) ?_
              refine lv_istore_n (lv' := [(0, .int (nI (3))), (1, .int (nI (19)))]) hx hb dJ20_numberOfTrailingZeros_73 rfl hl (by decide) rfl (fun ls hl => ?_)
              refine lv_iload_n hx hb dJ20_numberOfTrailingZeros_74 rfl (lv_at hl 1 rfl) ?_
              refine lv_iload_n hx hb dJ20_numberOfTrailingZeros_75 rfl (lv_at hl 0 rfl) ?_
              refine lv_iconst (v := nI (1)) hx hb dJ20_numberOfTrailingZeros_76 (by decide) ?_
              refine lv_iushr (v := nI (1)) hx hb dJ20_numberOfTrailingZeros_77 (by decide) ?_
              refine lv_iadd hx hb dJ20_numberOfTrailingZeros_78 ?_
              refine lv_tope (y := nI (20)) (by decide) ?_
              exact z_iret (v := nI (20)) hx hb hr hS (⟨20, by decide, by decide, hlb⟩) (by omega) (by omega) dJ20_numberOfTrailingZeros_79
          · exact absurd c_100 (by decide)
        · exact absurd c_99 (by decide)
    · exact absurd c_97 (by decide)
  · refine lv_tope (y := nI (2097151)) (by decide) ?_
    refine lv_istore_n (lv' := [(0, .int (nI (2097151)))]) hx hb dJ20_numberOfTrailingZeros_7 rfl hl (by decide) rfl (fun ls hl => ?_)
    refine lv_iload_n hx hb dJ20_numberOfTrailingZeros_8 rfl (lv_at hl 0 rfl) ?_
    refine lv_if_gt (tgt := 17) hx hb dJ20_numberOfTrailingZeros_9 (by decide) (fun c_102 => ?_) (fun c_102 => ?_)
    · refine lv_iconst (v := nI (1)) hx hb dJ20_numberOfTrailingZeros_17 (by decide) ?_
      refine lv_istore_n (lv' := [(1, .int (nI (1))), (0, .int (nI (2097151)))]) hx hb dJ20_numberOfTrailingZeros_18 rfl hl (by decide) rfl (fun ls hl => ?_)
      refine lv_iload_n hx hb dJ20_numberOfTrailingZeros_19 rfl (lv_at hl 1 rfl) ?_
      refine lv_ldcw (v := nI (65536)) hx hb hown (hts _ q788) dJ20_numberOfTrailingZeros_20 ?_
      refine lv_icmp_le (tgt := 34) hx hb dJ20_numberOfTrailingZeros_23 (by decide) (fun c_103 => ?_) (fun c_103 => ?_)
      · exact absurd c_103 (by decide)
      · refine lv_iinc (v := nI (17)) (lv' := [(1, .int (nI (17))), (0, .int (nI (2097151)))]) hx hb dJ20_numberOfTrailingZeros_26 hl (k := 0) rfl (by decide) (by decide) rfl (fun ls hl => ?_)
        refine lv_iload_n hx hb dJ20_numberOfTrailingZeros_29 rfl (lv_at hl 1 rfl) ?_
        refine lv_bipush (v := nI (16)) hx hb dJ20_numberOfTrailingZeros_30 (by decide) ?_
        refine lv_iushr (v := nI (31)) hx hb dJ20_numberOfTrailingZeros_32 (by decide) ?_
        refine lv_istore_n (lv' := [(0, .int (nI (31))), (1, .int (nI (17)))]) hx hb dJ20_numberOfTrailingZeros_33 rfl hl (by decide) rfl (fun ls hl => ?_)
        refine lv_iload_n hx hb dJ20_numberOfTrailingZeros_34 rfl (lv_at hl 0 rfl) ?_
        refine lv_sipush (v := nI (256)) hx hb dJ20_numberOfTrailingZeros_35 (by decide) ?_
        refine lv_icmp_le (tgt := 49) hx hb dJ20_numberOfTrailingZeros_38 (by decide) (fun c_104 => ?_) (fun c_104 => ?_)
        · refine lv_iload_n hx hb dJ20_numberOfTrailingZeros_49 rfl (lv_at hl 0 rfl) ?_
          refine lv_bipush (v := nI (16)) hx hb dJ20_numberOfTrailingZeros_50 (by decide) ?_
          refine lv_icmp_le (tgt := 62) hx hb dJ20_numberOfTrailingZeros_52 (by decide) (fun c_105 => ?_) (fun c_105 => ?_)
          · exact absurd c_105 (by decide)
          · refine lv_iinc (v := nI (21)) (lv' := [(1, .int (nI (21))), (0, .int (nI (31)))]) hx hb dJ20_numberOfTrailingZeros_55 hl (k := 1) rfl (by decide) (by decide) rfl (fun ls hl => ?_)
            refine lv_iload_n hx hb dJ20_numberOfTrailingZeros_58 rfl (lv_at hl 1 rfl) ?_
            refine lv_iconst (v := nI (4)) hx hb dJ20_numberOfTrailingZeros_59 (by decide) ?_
            refine lv_iushr (v := nI (1)) hx hb dJ20_numberOfTrailingZeros_60 (by decide) ?_
            refine lv_istore_n (lv' := [(0, .int (nI (1))), (1, .int (nI (21)))]) hx hb dJ20_numberOfTrailingZeros_61 rfl hl (by decide) rfl (fun ls hl => ?_)
            refine lv_iload_n hx hb dJ20_numberOfTrailingZeros_62 rfl (lv_at hl 0 rfl) ?_
            refine lv_iconst (v := nI (4)) hx hb dJ20_numberOfTrailingZeros_63 (by decide) ?_
            refine lv_icmp_le (tgt := 74) hx hb dJ20_numberOfTrailingZeros_64 (by decide) (fun c_106 => ?_) (fun c_106 => ?_)
            · refine lv_iload_n hx hb dJ20_numberOfTrailingZeros_74 rfl (lv_at hl 1 rfl) ?_
              refine lv_iload_n hx hb dJ20_numberOfTrailingZeros_75 rfl (lv_at hl 0 rfl) ?_
              refine lv_iconst (v := nI (1)) hx hb dJ20_numberOfTrailingZeros_76 (by decide) ?_
              refine lv_iushr (v := nI (0)) hx hb dJ20_numberOfTrailingZeros_77 (by decide) ?_
              refine lv_iadd hx hb dJ20_numberOfTrailingZeros_78 ?_
              refine lv_tope (y := nI (21)) (by decide) ?_
              exact z_iret (v := nI (21)) hx hb hr hS (⟨21, by decide, by decide, hlb⟩) (by omega) (by omega) dJ20_numberOfTrailingZeros_79
            · exact absurd c_106 (by decide)
        · exact absurd c_104 (by decide)
    · exact absurd c_102 (by decide)
  · refine lv_tope (y := nI (4194303)) (by decide) ?_
    refine lv_istore_n (lv' := [(0, .int (nI (4194303)))]) hx hb dJ20_numberOfTrailingZeros_7 rfl hl (by decide) rfl (fun ls hl => ?_)
    refine lv_iload_n hx hb dJ20_numberOfTrailingZeros_8 rfl (lv_at hl 0 rfl) ?_
    refine lv_if_gt (tgt := 17) hx hb dJ20_numberOfTrailingZeros_9 (by decide) (fun c_107 => ?_) (fun c_107 => ?_)
    · refine lv_iconst (v := nI (1)) hx hb dJ20_numberOfTrailingZeros_17 (by decide) ?_
      refine lv_istore_n (lv' := [(1, .int (nI (1))), (0, .int (nI (4194303)))]) hx hb dJ20_numberOfTrailingZeros_18 rfl hl (by decide) rfl (fun ls hl => ?_)
      refine lv_iload_n hx hb dJ20_numberOfTrailingZeros_19 rfl (lv_at hl 1 rfl) ?_
      refine lv_ldcw (v := nI (65536)) hx hb hown (hts _ q788) dJ20_numberOfTrailingZeros_20 ?_
      refine lv_icmp_le (tgt := 34) hx hb dJ20_numberOfTrailingZeros_23 (by decide) (fun c_108 => ?_) (fun c_108 => ?_)
      · exact absurd c_108 (by decide)
      · refine lv_iinc (v := nI (17)) (lv' := [(1, .int (nI (17))), (0, .int (nI (4194303)))]) hx hb dJ20_numberOfTrailingZeros_26 hl (k := 0) rfl (by decide) (by decide) rfl (fun ls hl => ?_)
        refine lv_iload_n hx hb dJ20_numberOfTrailingZeros_29 rfl (lv_at hl 1 rfl) ?_
        refine lv_bipush (v := nI (16)) hx hb dJ20_numberOfTrailingZeros_30 (by decide) ?_
        refine lv_iushr (v := nI (63)) hx hb dJ20_numberOfTrailingZeros_32 (by decide) ?_
        refine lv_istore_n (lv' := [(0, .int (nI (63))), (1, .int (nI (17)))]) hx hb dJ20_numberOfTrailingZeros_33 rfl hl (by decide) rfl (fun ls hl => ?_)
        refine lv_iload_n hx hb dJ20_numberOfTrailingZeros_34 rfl (lv_at hl 0 rfl) ?_
        refine lv_sipush (v := nI (256)) hx hb dJ20_numberOfTrailingZeros_35 (by decide) ?_
        refine lv_icmp_le (tgt := 49) hx hb dJ20_numberOfTrailingZeros_38 (by decide) (fun c_109 => ?_) (fun c_109 => ?_)
        · refine lv_iload_n hx hb dJ20_numberOfTrailingZeros_49 rfl (lv_at hl 0 rfl) ?_
          refine lv_bipush (v := nI (16)) hx hb dJ20_numberOfTrailingZeros_50 (by decide) ?_
          refine lv_icmp_le (tgt := 62) hx hb dJ20_numberOfTrailingZeros_52 (by decide) (fun c_110 => ?_) (fun c_110 => ?_)
          · exact absurd c_110 (by decide)
          · refine lv_iinc (v := nI (21)) (lv' := [(1, .int (nI (21))), (0, .int (nI (63)))]) hx hb dJ20_numberOfTrailingZeros_55 hl (k := 1) rfl (by decide) (by decide) rfl (fun ls hl => ?_)
            refine lv_iload_n hx hb dJ20_numberOfTrailingZeros_58 rfl (lv_at hl 1 rfl) ?_
            refine lv_iconst (v := nI (4)) hx hb dJ20_numberOfTrailingZeros_59 (by decide) ?_
            refine lv_iushr (v := nI (3)) hx hb dJ20_numberOfTrailingZeros_60 (by decide) ?_
            refine lv_istore_n (lv' := [(0, .int (nI (3))), (1, .int (nI (21)))]) hx hb dJ20_numberOfTrailingZeros_61 rfl hl (by decide) rfl (fun ls hl => ?_)
            refine lv_iload_n hx hb dJ20_numberOfTrailingZeros_62 rfl (lv_at hl 0 rfl) ?_
            refine lv_iconst (v := nI (4)) hx hb dJ20_numberOfTrailingZeros_63 (by decide) ?_
            refine lv_icmp_le (tgt := 74) hx hb dJ20_numberOfTrailingZeros_64 (by decide) (fun c_111 => ?_) (fun c_111 => ?_)
            · refine lv_iload_n hx hb dJ20_numberOfTrailingZeros_74 rfl (lv_at hl 1 rfl) ?_
              refine lv_iload_n hx hb dJ20_numberOfTrailingZeros_75 rfl (lv_at hl 0 rfl) ?_
              refine lv_iconst (v := nI (1)) hx hb dJ20_numberOfTrailingZeros_76 (by decide) ?_
              refine lv_iushr (v := nI (1)) hx hb dJ20_numberOfTrailingZeros_77 (by decide) ?_
              refine lv_iadd hx hb dJ20_numberOfTrailingZeros_78 ?_
              refine lv_tope (y := nI (22)) (by decide) ?_
              exact z_iret (v := nI (22)) hx hb hr hS (⟨22, by decide, by decide, hlb⟩) (by omega) (by omega) dJ20_numberOfTrailingZeros_79
            · exact absurd c_111 (by decide)
        · exact absurd c_109 (by decide)
    · exact absurd c_107 (by decide)
  · refine lv_tope (y := nI (8388607)) (by decide) ?_
    refine lv_istore_n (lv' := [(0, .int (nI (8388607)))]) hx hb dJ20_numberOfTrailingZeros_7 rfl hl (by decide) rfl (fun ls hl => ?_)
    refine lv_iload_n hx hb dJ20_numberOfTrailingZeros_8 rfl (lv_at hl 0 rfl) ?_
    refine lv_if_gt (tgt := 17) hx hb dJ20_numberOfTrailingZeros_9 (by decide) (fun c_112 => ?_) (fun c_112 => ?_)
    · refine lv_iconst (v := nI (1)) hx hb dJ20_numberOfTrailingZeros_17 (by decide) ?_
      refine lv_istore_n (lv' := [(1, .int (nI (1))), (0, .int (nI (8388607)))]) hx hb dJ20_numberOfTrailingZeros_18 rfl hl (by decide) rfl (fun ls hl => ?_)
      refine lv_iload_n hx hb dJ20_numberOfTrailingZeros_19 rfl (lv_at hl 1 rfl) ?_
      refine lv_ldcw (v := nI (65536)) hx hb hown (hts _ q788) dJ20_numberOfTrailingZeros_20 ?_
      refine lv_icmp_le (tgt := 34) hx hb dJ20_numberOfTrailingZeros_23 (by decide) (fun c_113 => ?_) (fun c_113 => ?_)
      · exact absurd c_113 (by decide)
      · refine lv_iinc (v := nI (17)) (lv' := [(1, .int (nI (17))), (0, .int (nI (8388607)))]) hx hb dJ20_numberOfTrailingZeros_26 hl (k := 0) rfl (by decide) (by decide) rfl (fun ls hl => ?_)
        refine lv_iload_n hx hb dJ20_numberOfTrailingZeros_29 rfl (lv_at hl 1 rfl) ?_
        refine lv_bipush (v := nI (16)) hx hb dJ20_numberOfTrailingZeros_30 (by decide) ?_
        refine lv_iushr (v := nI (127)) hx hb dJ20_numberOfTrailingZeros_32 (by decide) ?_
        refine lv_istore_n (lv' := [(0, .int (nI (127))), (1, .int (nI (17)))]) hx hb dJ20_numberOfTrailingZeros_33 rfl hl (by decide) rfl (fun ls hl => ?_)
        refine lv_iload_n hx hb dJ20_numberOfTrailingZeros_34 rfl (lv_at hl 0 rfl) ?_
        refine lv_sipush (v := nI (256)) hx hb dJ20_numberOfTrailingZeros_35 (by decide) ?_
        refine lv_icmp_le (tgt := 49) hx hb dJ20_numberOfTrailingZeros_38 (by decide) (fun c_114 => ?_) (fun c_114 => ?_)
        · refine lv_iload_n hx hb dJ20_numberOfTrailingZeros_49 rfl (lv_at hl 0 rfl) ?_
          refine lv_bipush (v := nI (16)) hx hb dJ20_numberOfTrailingZeros_50 (by decide) ?_
          refine lv_icmp_le (tgt := 62) hx hb dJ20_numberOfTrailingZeros_52 (by decide) (fun c_115 => ?_) (fun c_115 => ?_)
          · exact absurd c_115 (by decide)
          · refine lv_iinc (v := nI (21)) (lv' := [(1, .int (nI (21))), (0, .int (nI (127)))]) hx hb dJ20_numberOfTrailingZeros_55 hl (k := 1) rfl (by decide) (by decide) rfl (fun ls hl => ?_)
            refine lv_iload_n hx hb dJ20_numberOfTrailingZeros_58 rfl (lv_at hl 1 rfl) ?_
            refine lv_iconst (v := nI (4)) hx hb dJ20_numberOfTrailingZeros_59 (by decide) ?_
            refine lv_iushr (v := nI (7)) hx hb dJ20_numberOfTrailingZeros_60 (by decide) ?_
            refine lv_istore_n (lv' := [(0, .int (nI (7))), (1, .int (nI (21)))]) hx hb dJ20_numberOfTrailingZeros_61 rfl hl (by decide) rfl (fun ls hl => ?_)
            refine lv_iload_n hx hb dJ20_numberOfTrailingZeros_62 rfl (lv_at hl 0 rfl) ?_
            refine lv_iconst (v := nI (4)) hx hb dJ20_numberOfTrailingZeros_63 (by decide) ?_
            refine lv_icmp_le (tgt := 74) hx hb dJ20_numberOfTrailingZeros_64 (by decide) (fun c_116 => ?_) (fun c_116 => ?_)
            · exact absurd c_116 (by decide)
            · refine lv_iinc (v := nI (23)) (lv' := [(1, .int (nI (23))), (0, .int (nI (7)))]) hx hb dJ20_numberOfTrailingZeros_67 hl (k := 1) rfl (by decide) (by decide) rfl (fun ls hl => ?_)
              refine lv_iload_n hx hb dJ20_numberOfTrailingZeros_70 rfl (lv_at hl 1 rfl) ?_
              refine lv_iconst (v := nI (2)) hx hb dJ20_numberOfTrailingZeros_71 (by decide) ?_
              refine lv_iushr (v := nI (1)) hx hb dJ20_numberOfTrailingZeros_72 (by decide) ?_
              refine lv_istore_n (lv' := [(0, .int (nI (1))), (1, .int (nI (23)))]) hx hb dJ20_numberOfTrailingZeros_73 rfl hl (by decide) rfl (fun ls hl => ?_)
              refine lv_iload_n hx hb dJ20_numberOfTrailingZeros_74 rfl (lv_at hl 1 rfl) ?_
              refine lv_iload_n hx hb dJ20_numberOfTrailingZeros_75 rfl (lv_at hl 0 rfl) ?_
              refine lv_iconst (v := nI (1)) hx hb dJ20_numberOfTrailingZeros_76 (by decide) ?_
              refine lv_iushr (v := nI (0)) hx hb dJ20_numberOfTrailingZeros_77 (by decide) ?_
              refine lv_iadd hx hb dJ20_numberOfTrailingZeros_78 ?_
              refine lv_tope (y := nI (23)) (by decide) ?_
              exact z_iret (v := nI (23)) hx hb hr hS (⟨23, by decide, by decide, hlb⟩) (by omega) (by omega) dJ20_numberOfTrailingZeros_79
        · exact absurd c_114 (by decide)
    · exact absurd c_112 (by decide)
  · refine lv_tope (y := nI (16777215)) (by decide) ?_
    refine lv_istore_n (lv' := [(0, .int (nI (16777215)))]) hx hb dJ20_numberOfTrailingZeros_7 rfl hl (by decide) rfl (fun ls hl => ?_)
    refine lv_iload_n hx hb dJ20_numberOfTrailingZeros_8 rfl (lv_at hl 0 rfl) ?_
    refine lv_if_gt (tgt := 17) hx hb dJ20_numberOfTrailingZeros_9 (by decide) (fun c_117 => ?_) (fun c_117 => ?_)
    · refine lv_iconst (v := nI (1)) hx hb dJ20_numberOfTrailingZeros_17 (by decide) ?_
      refine lv_istore_n (lv' := [(1, .int (nI (1))), (0, .int (nI (16777215)))]) hx hb dJ20_numberOfTrailingZeros_18 rfl hl (by decide) rfl (fun ls hl => ?_)
      refine lv_iload_n hx hb dJ20_numberOfTrailingZeros_19 rfl (lv_at hl 1 rfl) ?_
      refine lv_ldcw (v := nI (65536)) hx hb hown (hts _ q788) dJ20_numberOfTrailingZeros_20 ?_
      refine lv_icmp_le (tgt := 34) hx hb dJ20_numberOfTrailingZeros_23 (by decide) (fun c_118 => ?_) (fun c_118 => ?_)
      · exact absurd c_118 (by decide)
      · refine lv_iinc (v := nI (17)) (lv' := [(1, .int (nI (17))), (0, .int (nI (16777215)))]) hx hb dJ20_numberOfTrailingZeros_26 hl (k := 0) rfl (by decide) (by decide) rfl (fun ls hl => ?_)
        refine lv_iload_n hx hb dJ20_numberOfTrailingZeros_29 rfl (lv_at hl 1 rfl) ?_
        refine lv_bipush (v := nI (16)) hx hb dJ20_numberOfTrailingZeros_30 (by decide) ?_
        refine lv_iushr (v := nI (255)) hx hb dJ20_numberOfTrailingZeros_32 (by decide) ?_
        refine lv_istore_n (lv' := [(0, .int (nI (255))), (1, .int (nI (17)))]) hx hb dJ20_numberOfTrailingZeros_33 rfl hl (by decide) rfl (fun ls hl => ?_)
        refine lv_iload_n hx hb dJ20_numberOfTrailingZeros_34 rfl (lv_at hl 0 rfl) ?_
        refine lv_sipush (v := nI (256)) hx hb dJ20_numberOfTrailingZeros_35 (by decide) ?_
        refine lv_icmp_le (tgt := 49) hx hb dJ20_numberOfTrailingZeros_38 (by decide) (fun c_119 => ?_) (fun c_119 => ?_)
        · refine lv_iload_n hx hb dJ20_numberOfTrailingZeros_49 rfl (lv_at hl 0 rfl) ?_
          refine lv_bipush (v := nI (16)) hx hb dJ20_numberOfTrailingZeros_50 (by decide) ?_
          refine lv_icmp_le (tgt := 62) hx hb dJ20_numberOfTrailingZeros_52 (by decide) (fun c_120 => ?_) (fun c_120 => ?_)
          · exact absurd c_120 (by decide)
          · refine lv_iinc (v := nI (21)) (lv' := [(1, .int (nI (21))), (0, .int (nI (255)))]) hx hb dJ20_numberOfTrailingZeros_55 hl (k := 1) rfl (by decide) (by decide) rfl (fun ls hl => ?_)
            refine lv_iload_n hx hb dJ20_numberOfTrailingZeros_58 rfl (lv_at hl 1 rfl) ?_
            refine lv_iconst (v := nI (4)) hx hb dJ20_numberOfTrailingZeros_59 (by decide) ?_
            refine lv_iushr (v := nI (15)) hx hb dJ20_numberOfTrailingZeros_60 (by decide) ?_
            refine lv_istore_n (lv' := [(0, .int (nI (15))), (1, .int (nI (21)))]) hx hb dJ20_numberOfTrailingZeros_61 rfl hl (by decide) rfl (fun ls hl => ?_)
            refine lv_iload_n hx hb dJ20_numberOfTrailingZeros_62 rfl (lv_at hl 0 rfl) ?_
            refine lv_iconst (v := nI (4)) hx hb dJ20_numberOfTrailingZeros_63 (by decide) ?_
            refine lv_icmp_le (tgt := 74) hx hb dJ20_numberOfTrailingZeros_64 (by decide) (fun c_121 => ?_) (fun c_121 => ?_)
            · exact absurd c_121 (by decide)
            · refine lv_iinc (v := nI (23)) (lv' := [(1, .int (nI (23))), (0, .int (nI (15)))]) hx hb dJ20_numberOfTrailingZeros_67 hl (k := 1) rfl (by decide) (by decide) rfl (fun ls hl => ?_)
              refine lv_iload_n hx hb dJ20_numberOfTrailingZeros_70 rfl (lv_at hl 1 rfl) ?_
              refine lv_iconst (v := nI (2)) hx hb dJ20_numberOfTrailingZeros_71 (by decide) ?_
              refine lv_iushr (v := nI (3)) hx hb dJ20_numberOfTrailingZeros_72 (by decide) ?_
              refine lv_istore_n (lv' := [(0, .int (nI (3))), (1, .int (nI (23)))]) hx hb dJ20_numberOfTrailingZeros_73 rfl hl (by decide) rfl (fun ls hl => ?_)
              refine lv_iload_n hx hb dJ20_numberOfTrailingZeros_74 rfl (lv_at hl 1 rfl) ?_
              refine lv_iload_n hx hb dJ20_numberOfTrailingZeros_75 rfl (lv_at hl 0 rfl) ?_
              refine lv_iconst (v := nI (1)) hx hb dJ20_numberOfTrailingZeros_76 (by decide) ?_
              refine lv_iushr (v := nI (1)) hx hb dJ20_numberOfTrailingZeros_77 (by decide) ?_
              refine lv_iadd hx hb dJ20_numberOfTrailingZeros_78 ?_
              refine lv_tope (y := nI (24)) (by decide) ?_
              exact z_iret (v := nI (24)) hx hb hr hS (⟨24, by decide, by decide, hlb⟩) (by omega) (by omega) dJ20_numberOfTrailingZeros_79
        · exact absurd c_119 (by decide)
    · exact absurd c_117 (by decide)
  · refine lv_tope (y := nI (33554431)) (by decide) ?_
    refine lv_istore_n (lv' := [(0, .int (nI (33554431)))]) hx hb dJ20_numberOfTrailingZeros_7 rfl hl (by decide) rfl (fun ls hl => ?_)
    refine lv_iload_n hx hb dJ20_numberOfTrailingZeros_8 rfl (lv_at hl 0 rfl) ?_
    refine lv_if_gt (tgt := 17) hx hb dJ20_numberOfTrailingZeros_9 (by decide) (fun c_122 => ?_) (fun c_122 => ?_)
    · refine lv_iconst (v := nI (1)) hx hb dJ20_numberOfTrailingZeros_17 (by decide) ?_
      refine lv_istore_n (lv' := [(1, .int (nI (1))), (0, .int (nI (33554431)))]) hx hb dJ20_numberOfTrailingZeros_18 rfl hl (by decide) rfl (fun ls hl => ?_)
      refine lv_iload_n hx hb dJ20_numberOfTrailingZeros_19 rfl (lv_at hl 1 rfl) ?_
      refine lv_ldcw (v := nI (65536)) hx hb hown (hts _ q788) dJ20_numberOfTrailingZeros_20 ?_
      refine lv_icmp_le (tgt := 34) hx hb dJ20_numberOfTrailingZeros_23 (by decide) (fun c_123 => ?_) (fun c_123 => ?_)
      · exact absurd c_123 (by decide)
      · refine lv_iinc (v := nI (17)) (lv' := [(1, .int (nI (17))), (0, .int (nI (33554431)))]) hx hb dJ20_numberOfTrailingZeros_26 hl (k := 0) rfl (by decide) (by decide) rfl (fun ls hl => ?_)
        refine lv_iload_n hx hb dJ20_numberOfTrailingZeros_29 rfl (lv_at hl 1 rfl) ?_
        refine lv_bipush (v := nI (16)) hx hb dJ20_numberOfTrailingZeros_30 (by decide) ?_
        refine lv_iushr (v := nI (511)) hx hb dJ20_numberOfTrailingZeros_32 (by decide) ?_
        refine lv_istore_n (lv' := [(0, .int (nI (511))), (1, .int (nI (17)))]) hx hb dJ20_numberOfTrailingZeros_33 rfl hl (by decide) rfl (fun ls hl => ?_)
        refine lv_iload_n hx hb dJ20_numberOfTrailingZeros_34 rfl (lv_at hl 0 rfl) ?_
        refine lv_sipush (v := nI (256)) hx hb dJ20_numberOfTrailingZeros_35 (by decide) ?_
        refine lv_icmp_le (tgt := 49) hx hb dJ20_numberOfTrailingZeros_38 (by decide) (fun c_124 => ?_) (fun c_124 => ?_)
        · exact absurd c_124 (by decide)
        · refine lv_iinc (v := nI (25)) (lv' := [(1, .int (nI (25))), (0, .int (nI (511)))]) hx hb dJ20_numberOfTrailingZeros_41 hl (k := 1) rfl (by decide) (by decide) rfl (fun ls hl => ?_)
          refine lv_iload_n hx hb dJ20_numberOfTrailingZeros_44 rfl (lv_at hl 1 rfl) ?_
          refine lv_bipush (v := nI (8)) hx hb dJ20_numberOfTrailingZeros_45 (by decide) ?_
          refine lv_iushr (v := nI (1)) hx hb dJ20_numberOfTrailingZeros_47 (by decide) ?_
          refine lv_istore_n (lv' := [(0, .int (nI (1))), (1, .int (nI (25)))]) hx hb dJ20_numberOfTrailingZeros_48 rfl hl (by decide) rfl (fun ls hl => ?_)
          refine lv_iload_n hx hb dJ20_numberOfTrailingZeros_49 rfl (lv_at hl 0 rfl) ?_
          refine lv_bipush (v := nI (16)) hx hb dJ20_numberOfTrailingZeros_50 (by decide) ?_
          refine lv_icmp_le (tgt := 62) hx hb dJ20_numberOfTrailingZeros_52 (by decide) (fun c_125 => ?_) (fun c_125 => ?_)
          · refine lv_iload_n hx hb dJ20_numberOfTrailingZeros_62 rfl (lv_at hl 0 rfl) ?_
            refine lv_iconst (v := nI (4)) hx hb dJ20_numberOfTrailingZeros_63 (by decide) ?_
            refine lv_icmp_le (tgt := 74) hx hb dJ20_numberOfTrailingZeros_64 (by decide) (fun c_126 => ?_) (fun c_126 => ?_)
            · refine lv_iload_n hx hb dJ20_numberOfTrailingZeros_74 rfl (lv_at hl 1 rfl) ?_
              refine lv_iload_n hx hb dJ20_numberOfTrailingZeros_75 rfl (lv_at hl 0 rfl) ?_
              refine lv_iconst (v := nI (1)) hx hb dJ20_numberOfTrailingZeros_76 (by decide) ?_
              refine lv_iushr (v := nI (0)) hx hb dJ20_numberOfTrailingZeros_77 (by decide) ?_
              refine lv_iadd hx hb dJ20_numberOfTrailingZeros_78 ?_
              refine lv_tope (y := nI (25)) (by decide) ?_
              exact z_iret (v := nI (25)) hx hb hr hS (⟨25, by decide, by decide, hlb⟩) (by omega) (by omega) dJ20_numberOfTrailingZeros_79
            · exact absurd c_126 (by decide)
          · exact absurd c_125 (by decide)
    · exact absurd c_122 (by decide)
  · refine lv_tope (y := nI (67108863)) (by decide) ?_
    refine lv_istore_n (lv' := [(0, .int (nI (67108863)))]) hx hb dJ20_numberOfTrailingZeros_7 rfl hl (by decide) rfl (fun ls hl => ?_)
    refine lv_iload_n hx hb dJ20_numberOfTrailingZeros_8 rfl (lv_at hl 0 rfl) ?_
    refine lv_if_gt (tgt := 17) hx hb dJ20_numberOfTrailingZeros_9 (by decide) (fun c_127 => ?_) (fun c_127 => ?_)
    · refine lv_iconst (v := nI (1)) hx hb dJ20_numberOfTrailingZeros_17 (by decide) ?_
      refine lv_istore_n (lv' := [(1, .int (nI (1))), (0, .int (nI (67108863)))]) hx hb dJ20_numberOfTrailingZeros_18 rfl hl (by decide) rfl (fun ls hl => ?_)
      refine lv_iload_n hx hb dJ20_numberOfTrailingZeros_19 rfl (lv_at hl 1 rfl) ?_
      refine lv_ldcw (v := nI (65536)) hx hb hown (hts _ q788) dJ20_numberOfTrailingZeros_20 ?_
      refine lv_icmp_le (tgt := 34) hx hb dJ20_numberOfTrailingZeros_23 (by decide) (fun c_128 => ?_) (fun c_128 => ?_)
      · exact absurd c_128 (by decide)
      · refine lv_iinc (v := nI (17)) (lv' := [(1, .int (nI (17))), (0, .int (nI (67108863)))]) hx hb dJ20_numberOfTrailingZeros_26 hl (k := 0) rfl (by decide) (by decide) rfl (fun ls hl => ?_)
        refine lv_iload_n hx hb dJ20_numberOfTrailingZeros_29 rfl (lv_at hl 1 rfl) ?_
        refine lv_bipush (v := nI (16)) hx hb dJ20_numberOfTrailingZeros_30 (by decide) ?_
        refine lv_iushr (v := nI (1023)) hx hb dJ20_numberOfTrailingZeros_32 (by decide) ?_
        refine lv_istore_n (lv' := [(0, .int (nI (1023))), (1, .int (nI (17)))]) hx hb dJ20_numberOfTrailingZeros_33 rfl hl (by decide) rfl (fun ls hl => ?_)
        refine lv_iload_n hx hb dJ20_numberOfTrailingZeros_34 rfl (lv_at hl 0 rfl) ?_
        refine lv_sipush (v := nI (256)) hx hb dJ20_numberOfTrailingZeros_35 (by decide) ?_
        refine lv_icmp_le (tgt := 49) hx hb dJ20_numberOfTrailingZeros_38 (by decide) (fun c_129 => ?_) (fun c_129 => ?_)
        · exact absurd c_129 (by decide)
        · refine lv_iinc (v := nI (25)) (lv' := [(1, .int (nI (25))), (0, .int (nI (1023)))]) hx hb dJ20_numberOfTrailingZeros_41 hl (k := 1) rfl (by decide) (by decide) rfl (fun ls hl => ?_)
          refine lv_iload_n hx hb dJ20_numberOfTrailingZeros_44 rfl (lv_at hl 1 rfl) ?_
          refine lv_bipush (v := nI (8)) hx hb dJ20_numberOfTrailingZeros_45 (by decide) ?_
          refine lv_iushr (v := nI (3)) hx hb dJ20_numberOfTrailingZeros_47 (by decide) ?_
          refine lv_istore_n (lv' := [(0, .int (nI (3))), (1, .int (nI (25)))]) hx hb dJ20_numberOfTrailingZeros_48 rfl hl (by decide) rfl (fun ls hl => ?_)
          refine lv_iload_n hx hb dJ20_numberOfTrailingZeros_49 rfl (lv_at hl 0 rfl) ?_
          refine lv_bipush (v := nI (16)) hx hb dJ20_numberOfTrailingZeros_50 (by decide) ?_
          refine lv_icmp_le (tgt := 62) hx hb dJ20_numberOfTrailingZeros_52 (by decide) (fun c_130 => ?_) (fun c_130 => ?_)
          · refine lv_iload_n hx hb dJ20_numberOfTrailingZeros_62 rfl (lv_at hl 0 rfl) ?_
            refine lv_iconst (v := nI (4)) hx hb dJ20_numberOfTrailingZeros_63 (by decide) ?_
            refine lv_icmp_le (tgt := 74) hx hb dJ20_numberOfTrailingZeros_64 (by decide) (fun c_131 => ?_) (fun c_131 => ?_)
            · refine lv_iload_n hx hb dJ20_numberOfTrailingZeros_74 rfl (lv_at hl 1 rfl) ?_
              refine lv_iload_n hx hb dJ20_numberOfTrailingZeros_75 rfl (lv_at hl 0 rfl) ?_
              refine lv_iconst (v := nI (1)) hx hb dJ20_numberOfTrailingZeros_76 (by decide) ?_
              refine lv_iushr (v := nI (1)) hx hb dJ20_numberOfTrailingZeros_77 (by decide) ?_
              refine lv_iadd hx hb dJ20_numberOfTrailingZeros_78 ?_
              refine lv_tope (y := nI (26)) (by decide) ?_
              exact z_iret (v := nI (26)) hx hb hr hS (⟨26, by decide, by decide, hlb⟩) (by omega) (by omega) dJ20_numberOfTrailingZeros_79
            · exact absurd c_131 (by decide)
          · exact absurd c_130 (by decide)
    · exact absurd c_127 (by decide)
  · refine lv_tope (y := nI (134217727)) (by decide) ?_
    refine lv_istore_n (lv' := [(0, .int (nI (134217727)))]) hx hb dJ20_numberOfTrailingZeros_7 rfl hl (by decide) rfl (fun ls hl => ?_)
    refine lv_iload_n hx hb dJ20_numberOfTrailingZeros_8 rfl (lv_at hl 0 rfl) ?_
    refine lv_if_gt (tgt := 17) hx hb dJ20_numberOfTrailingZeros_9 (by decide) (fun c_132 => ?_) (fun c_132 => ?_)
    · refine lv_iconst (v := nI (1)) hx hb dJ20_numberOfTrailingZeros_17 (by decide) ?_
      refine lv_istore_n (lv' := [(1, .int (nI (1))), (0, .int (nI (134217727)))]) hx hb dJ20_numberOfTrailingZeros_18 rfl hl (by decide) rfl (fun ls hl => ?_)
      refine lv_iload_n hx hb dJ20_numberOfTrailingZeros_19 rfl (lv_at hl 1 rfl) ?_
      refine lv_ldcw (v := nI (65536)) hx hb hown (hts _ q788) dJ20_numberOfTrailingZeros_20 ?_
      refine lv_icmp_le (tgt := 34) hx hb dJ20_numberOfTrailingZeros_23 (by decide) (fun c_133 => ?_) (fun c_133 => ?_)
      · exact absurd c_133 (by decide)
      · refine lv_iinc (v := nI (17)) (lv' := [(1, .int (nI (17))), (0, .int (nI (134217727)))]) hx hb dJ20_numberOfTrailingZeros_26 hl (k := 0) rfl (by decide) (by decide) rfl (fun ls hl => ?_)
        refine lv_iload_n hx hb dJ20_numberOfTrailingZeros_29 rfl (lv_at hl 1 rfl) ?_
        refine lv_bipush (v := nI (16)) hx hb dJ20_numberOfTrailingZeros_30 (by decide) ?_
        refine lv_iushr (v := nI (2047)) hx hb dJ20_numberOfTrailingZeros_32 (by decide) ?_
        refine lv_istore_n (lv' := [(0, .int (nI (2047))), (1, .int (nI (17)))]) hx hb dJ20_numberOfTrailingZeros_33 rfl hl (by decide) rfl (fun ls hl => ?_)
        refine lv_iload_n hx hb dJ20_numberOfTrailingZeros_34 rfl (lv_at hl 0 rfl) ?_
        refine lv_sipush (v := nI (256)) hx hb dJ20_numberOfTrailingZeros_35 (by decide) ?_
        refine lv_icmp_le (tgt := 49) hx hb dJ20_numberOfTrailingZeros_38 (by decide) (fun c_134 => ?_) (fun c_134 => ?_)
        · exact absurd c_134 (by decide)
        · refine lv_iinc (v := nI (25)) (lv' := [(1, .int (nI (25))), (0, .int (nI (2047)))]) hx hb dJ20_numberOfTrailingZeros_41 hl (k := 1) rfl (by decide) (by decide) rfl (fun ls hl => ?_)
          refine lv_iload_n hx hb dJ20_numberOfTrailingZeros_44 rfl (lv_at hl 1 rfl) ?_
          refine lv_bipush (v := nI (8)) hx hb dJ20_numberOfTrailingZeros_45 (by decide) ?_
          refine lv_iushr (v := nI (7)) hx hb dJ20_numberOfTrailingZeros_47 (by decide) ?_
          refine lv_istore_n (lv' := [(0, .int (nI (7))), (1, .int (nI (25)))]) hx hb dJ20_numberOfTrailingZeros_48 rfl hl (by decide) rfl (fun ls hl => ?_)
          refine lv_iload_n hx hb dJ20_numberOfTrailingZeros_49 rfl (lv_at hl 0 rfl) ?_
          refine lv_bipush (v := nI (16)) hx hb dJ20_numberOfTrailingZeros_50 (by decide) ?_
          refine lv_icmp_le (tgt := 62) hx hb dJ20_numberOfTrailingZeros_52 (by decide) (fun c_135 => ?_) (fun c_135 => ?_)
          · refine lv_iload_n hx hb dJ20_numberOfTrailingZeros_62 rfl (lv_at hl 0 rfl) ?_
            refine lv_iconst (v := nI (4)) hx hb dJ20_numberOfTrailingZeros_63 (by decide) ?_
            refine lv_icmp_le (tgt := 74) hx hb dJ20_numberOfTrailingZeros_64 (by decide) (fun c_136 => ?_) (fun c_136 => ?_)
            · exact absurd c_136 (by decide)
            · refine lv_iinc (v := nI (27)) (lv' := [(1, .int (nI (27))), (0, .int (nI (7)))]) hx hb dJ20_numberOfTrailingZeros_67 hl (k := 1) rfl (by decide) (by decide) rfl (fun ls hl => ?_)
              refine lv_iload_n hx hb dJ20_numberOfTrailingZeros_70 rfl (lv_at hl 1 rfl) ?_
              refine lv_iconst (v := nI (2)) hx hb dJ20_numberOfTrailingZeros_71 (by decide) ?_
              refine lv_iushr (v := nI (1)) hx hb dJ20_numberOfTrailingZeros_72 (by decide) ?_
              refine lv_istore_n (lv' := [(0, .int (nI (1))), (1, .int (nI (27)))]) hx hb dJ20_numberOfTrailingZeros_73 rfl hl (by decide) rfl (fun ls hl => ?_)
              refine lv_iload_n hx hb dJ20_numberOfTrailingZeros_74 rfl (lv_at hl 1 rfl) ?_
              refine lv_iload_n hx hb dJ20_numberOfTrailingZeros_75 rfl (lv_at hl 0 rfl) ?_
              refine lv_iconst (v := nI (1)) hx hb dJ20_numberOfTrailingZeros_76 (by decide) ?_
              refine lv_iushr (v := nI (0)) hx hb dJ20_numberOfTrailingZeros_77 (by decide) ?_
              refine lv_iadd hx hb dJ20_numberOfTrailingZeros_78 ?_
              refine lv_tope (y := nI (27)) (by decide) ?_
              exact z_iret (v := nI (27)) hx hb hr hS (⟨27, by decide, by decide, hlb⟩) (by omega) (by omega) dJ20_numberOfTrailingZeros_79
          · exact absurd c_135 (by decide)
    · exact absurd c_132 (by decide)
  · refine lv_tope (y := nI (268435455)) (by decide) ?_
    refine lv_istore_n (lv' := [(0, .int (nI (268435455)))]) hx hb dJ20_numberOfTrailingZeros_7 rfl hl (by decide) rfl (fun ls hl => ?_)
    refine lv_iload_n hx hb dJ20_numberOfTrailingZeros_8 rfl (lv_at hl 0 rfl) ?_
    refine lv_if_gt (tgt := 17) hx hb dJ20_numberOfTrailingZeros_9 (by decide) (fun c_137 => ?_) (fun c_137 => ?_)
    · refine lv_iconst (v := nI (1)) hx hb dJ20_numberOfTrailingZeros_17 (by decide) ?_
      refine lv_istore_n (lv' := [(1, .int (nI (1))), (0, .int (nI (268435455)))]) hx hb dJ20_numberOfTrailingZeros_18 rfl hl (by decide) rfl (fun ls hl => ?_)
      refine lv_iload_n hx hb dJ20_numberOfTrailingZeros_19 rfl (lv_at hl 1 rfl) ?_
      refine lv_ldcw (v := nI (65536)) hx hb hown (hts _ q788) dJ20_numberOfTrailingZeros_20 ?_
      refine lv_icmp_le (tgt := 34) hx hb dJ20_numberOfTrailingZeros_23 (by decide) (fun c_138 => ?_) (fun c_138 => ?_)
      · exact absurd c_138 (by decide)
      · refine lv_iinc (v := nI (17)) (lv' := [(1, .int (nI (17))), (0, .int (nI (268435455)))]) hx hb dJ20_numberOfTrailingZeros_26 hl (k := 0) rfl (by decide) (by decide) rfl (fun ls hl => ?_)
        refine lv_iload_n hx hb dJ20_numberOfTrailingZeros_29 rfl (lv_at hl 1 rfl) ?_
        refine lv_bipush (v := nI (16)) hx hb dJ20_numberOfTrailingZeros_30 (by decide) ?_
        refine lv_iushr (v := nI (4095)) hx hb dJ20_numberOfTrailingZeros_32 (by decide) ?_
        refine lv_istore_n (lv' := [(0, .int (nI (4095))), (1, .int (nI (17)))]) hx hb dJ20_numberOfTrailingZeros_33 rfl hl (by decide) rfl (fun ls hl => ?_)
        refine lv_iload_n hx hb dJ20_numberOfTrailingZeros_34 rfl (lv_at hl 0 rfl) ?_
        refine lv_sipush (v := nI (256)) hx hb dJ20_numberOfTrailingZeros_35 (by decide) ?_
        refine lv_icmp_le (tgt := 49) hx hb dJ20_numberOfTrailingZeros_38 (by decide) (fun c_139 => ?_) (fun c_139 => ?_)
        · exact absurd c_139 (by decide)
        · refine lv_iinc (v := nI (25)) (lv' := [(1, .int (nI (25))), (0, .int (nI (4095)))]) hx hb dJ20_numberOfTrailingZeros_41 hl (k := 1) rfl (by decide) (by decide) rfl (fun ls hl => ?_)
          refine lv_iload_n hx hb dJ20_numberOfTrailingZeros_44 rfl (lv_at hl 1 rfl) ?_
          refine lv_bipush (v := nI (8)) hx hb dJ20_numberOfTrailingZeros_45 (by decide) ?_
          refine lv_iushr (v := nI (15)) hx hb dJ20_numberOfTrailingZeros_47 (by decide) ?_
          refine lv_istore_n (lv' := [(0, .int (nI (15))), (1, .int (nI (25)))]) hx hb dJ20_numberOfTrailingZeros_48 rfl hl (by decide) rfl (fun ls hl => ?_)
          refine lv_iload_n hx hb dJ20_numberOfTrailingZeros_49 rfl (lv_at hl 0 rfl) ?_
          refine lv_bipush (v := nI (16)) hx hb dJ20_numberOfTrailingZeros_50 (by decide) ?_
          refine lv_icmp_le (tgt := 62) hx hb dJ20_numberOfTrailingZeros_52 (by decide) (fun c_140 => ?_) (fun c_140 => ?_)
          · refine lv_iload_n hx hb dJ20_numberOfTrailingZeros_62 rfl (lv_at hl 0 rfl) ?_
            refine lv_iconst (v := nI (4)) hx hb dJ20_numberOfTrailingZeros_63 (by decide) ?_
            refine lv_icmp_le (tgt := 74) hx hb dJ20_numberOfTrailingZeros_64 (by decide) (fun c_141 => ?_) (fun c_141 => ?_)
            · exact absurd c_141 (by decide)
            · refine lv_iinc (v := nI (27)) (lv' := [(1, .int (nI (27))), (0, .int (nI (15)))]) hx hb dJ20_numberOfTrailingZeros_67 hl (k := 1) rfl (by decide) (by decide) rfl (fun ls hl => ?_)
              refine lv_iload_n hx hb dJ20_numberOfTrailingZeros_70 rfl (lv_at hl 1 rfl) ?_
              refine lv_iconst (v := nI (2)) hx hb dJ20_numberOfTrailingZeros_71 (by decide) ?_
              refine lv_iushr (v := nI (3)) hx hb dJ20_numberOfTrailingZeros_72 (by decide) ?_
              refine lv_istore_n (lv' := [(0, .int (nI (3))), (1, .int (nI (27)))]) hx hb dJ20_numberOfTrailingZeros_73 rfl hl (by decide) rfl (fun ls hl => ?_)
              refine lv_iload_n hx hb dJ20_numberOfTrailingZeros_74 rfl (lv_at hl 1 rfl) ?_
              refine lv_iload_n hx hb dJ20_numberOfTrailingZeros_75 rfl (lv_at hl 0 rfl) ?_
              refine lv_iconst (v := nI (1)) hx hb dJ20_numberOfTrailingZeros_76 (by decide) ?_
              refine lv_iushr (v := nI (1)) hx hb dJ20_numberOfTrailingZeros_77 (by decide) ?_
              refine lv_iadd hx hb dJ20_numberOfTrailingZeros_78 ?_
              refine lv_tope (y := nI (28)) (by decide) ?_
              exact z_iret (v := nI (28)) hx hb hr hS (⟨28, by decide, by decide, hlb⟩) (by omega) (by omega) dJ20_numberOfTrailingZeros_79
          · exact absurd c_140 (by decide)
    · exact absurd c_137 (by decide)
  · refine lv_tope (y := nI (536870911)) (by decide) ?_
    refine lv_istore_n (lv' := [(0, .int (nI (536870911)))]) hx hb dJ20_numberOfTrailingZeros_7 rfl hl (by decide) rfl (fun ls hl => ?_)
    refine lv_iload_n hx hb dJ20_numberOfTrailingZeros_8 rfl (lv_at hl 0 rfl) ?_
    refine lv_if_gt (tgt := 17) hx hb dJ20_numberOfTrailingZeros_9 (by decide) (fun c_142 => ?_) (fun c_142 => ?_)
    · refine lv_iconst (v := nI (1)) hx hb dJ20_numberOfTrailingZeros_17 (by decide) ?_
      refine lv_istore_n (lv' := [(1, .int (nI (1))), (0, .int (nI (536870911)))]) hx hb dJ20_numberOfTrailingZeros_18 rfl hl (by decide) rfl (fun ls hl => ?_)
      refine lv_iload_n hx hb dJ20_numberOfTrailingZeros_19 rfl (lv_at hl 1 rfl) ?_
      refine lv_ldcw (v := nI (65536)) hx hb hown (hts _ q788) dJ20_numberOfTrailingZeros_20 ?_
      refine lv_icmp_le (tgt := 34) hx hb dJ20_numberOfTrailingZeros_23 (by decide) (fun c_143 => ?_) (fun c_143 => ?_)
      · exact absurd c_143 (by decide)
      · refine lv_iinc (v := nI (17)) (lv' := [(1, .int (nI (17))), (0, .int (nI (536870911)))]) hx hb dJ20_numberOfTrailingZeros_26 hl (k := 0) rfl (by decide) (by decide) rfl (fun ls hl => ?_)
        refine lv_iload_n hx hb dJ20_numberOfTrailingZeros_29 rfl (lv_at hl 1 rfl) ?_
        refine lv_bipush (v := nI (16)) hx hb dJ20_numberOfTrailingZeros_30 (by decide) ?_
        refine lv_iushr (v := nI (8191)) hx hb dJ20_numberOfTrailingZeros_32 (by decide) ?_
        refine lv_istore_n (lv' := [(0, .int (nI (8191))), (1, .int (nI (17)))]) hx hb dJ20_numberOfTrailingZeros_33 rfl hl (by decide) rfl (fun ls hl => ?_)
        refine lv_iload_n hx hb dJ20_numberOfTrailingZeros_34 rfl (lv_at hl 0 rfl) ?_
        refine lv_sipush (v := nI (256)) hx hb dJ20_numberOfTrailingZeros_35 (by decide) ?_
        refine lv_icmp_le (tgt := 49) hx hb dJ20_numberOfTrailingZeros_38 (by decide) (fun c_144 => ?_) (fun c_144 => ?_)
        · exact absurd c_144 (by decide)
        · refine lv_iinc (v := nI (25)) (lv' := [(1, .int (nI (25))), (0, .int (nI (8191)))]) hx hb dJ20_numberOfTrailingZeros_41 hl (k := 1) rfl (by decide) (by decide) rfl (fun ls hl => ?_)
          refine lv_iload_n hx hb dJ20_numberOfTrailingZeros_44 rfl (lv_at hl 1 rfl) ?_
          refine lv_bipush (v := nI (8)) hx hb dJ20_numberOfTrailingZeros_45 (by decide) ?_
          refine lv_iushr (v := nI (31)) hx hb dJ20_numberOfTrailingZeros_47 (by decide) ?_
          refine lv_istore_n (lv' := [(0, .int (nI (31))), (1, .int (nI (25)))]) hx hb dJ20_numberOfTrailingZeros_48 rfl hl (by decide) rfl (fun ls hl => ?_)
          refine lv_iload_n hx hb dJ20_numberOfTrailingZeros_49 rfl (lv_at hl 0 rfl) ?_
          refine lv_bipush (v := nI (16)) hx hb dJ20_numberOfTrailingZeros_50 (by decide) ?_
          refine lv_icmp_le (tgt := 62) hx hb dJ20_numberOfTrailingZeros_52 (by decide) (fun c_145 => ?_) (fun c_145 => ?_)
          · exact absurd c_145 (by decide)
          · refine lv_iinc (v := nI (29)) (lv' := [(1, .int (nI (29))), (0, .int (nI (31)))]) hx hb dJ20_numberOfTrailingZeros_55 hl (k := 1) rfl (by decide) (by decide) rfl (fun ls hl => ?_)
            refine lv_iload_n hx hb dJ20_numberOfTrailingZeros_58 rfl (lv_at hl 1 rfl) ?_
            refine lv_iconst (v := nI (4)) hx hb dJ20_numberOfTrailingZeros_59 (by decide) ?_
            refine lv_iushr (v := nI (1)) hx hb dJ20_numberOfTrailingZeros_60 (by decide) ?_
            refine lv_istore_n (lv' := [(0, .int (nI (1))), (1, .int (nI (29)))]) hx hb dJ20_numberOfTrailingZeros_61 rfl hl (by decide) rfl (fun ls hl => ?_)
            refine lv_iload_n hx hb dJ20_numberOfTrailingZeros_62 rfl (lv_at hl 0 rfl) ?_
            refine lv_iconst (v := nI (4)) hx hb dJ20_numberOfTrailingZeros_63 (by decide) ?_
            refine lv_icmp_le (tgt := 74) hx hb dJ20_numberOfTrailingZeros_64 (by decide) (fun c_146 => ?_) (fun c_146 => ?_)
            · refine lv_iload_n hx hb dJ20_numberOfTrailingZeros_74 rfl (lv_at hl 1 rfl) ?_
              refine lv_iload_n hx hb dJ20_numberOfTrailingZeros_75 rfl (lv_at hl 0 rfl) ?_
              refine lv_iconst (v := nI (1)) hx hb dJ20_numberOfTrailingZeros_76 (by decide) ?_
              refine lv_iushr (v := nI (0)) hx hb dJ20_numberOfTrailingZeros_77 (by decide) ?_
              refine lv_iadd hx hb dJ20_numberOfTrailingZeros_78 ?_
              refine lv_tope (y := nI (29)) (by decide) ?_
              exact z_iret (v := nI (29)) hx hb hr hS (⟨29, by decide, by decide, hlb⟩) (by omega) (by omega) dJ20_numberOfTrailingZeros_79
            · exact absurd c_146 (by decide)
    · exact absurd c_142 (by decide)
  · refine lv_tope (y := nI (1073741823)) (by decide) ?_
    refine lv_istore_n (lv' := [(0, .int (nI (1073741823)))]) hx hb dJ20_numberOfTrailingZeros_7 rfl hl (by decide) rfl (fun ls hl => ?_)
    refine lv_iload_n hx hb dJ20_numberOfTrailingZeros_8 rfl (lv_at hl 0 rfl) ?_
    refine lv_if_gt (tgt := 17) hx hb dJ20_numberOfTrailingZeros_9 (by decide) (fun c_147 => ?_) (fun c_147 => ?_)
    · refine lv_iconst (v := nI (1)) hx hb dJ20_numberOfTrailingZeros_17 (by decide) ?_
      refine lv_istore_n (lv' := [(1, .int (nI (1))), (0, .int (nI (1073741823)))]) hx hb dJ20_numberOfTrailingZeros_18 rfl hl (by decide) rfl (fun ls hl => ?_)
      refine lv_iload_n hx hb dJ20_numberOfTrailingZeros_19 rfl (lv_at hl 1 rfl) ?_
      refine lv_ldcw (v := nI (65536)) hx hb hown (hts _ q788) dJ20_numberOfTrailingZeros_20 ?_
      refine lv_icmp_le (tgt := 34) hx hb dJ20_numberOfTrailingZeros_23 (by decide) (fun c_148 => ?_) (fun c_148 => ?_)
      · exact absurd c_148 (by decide)
      · refine lv_iinc (v := nI (17)) (lv' := [(1, .int (nI (17))), (0, .int (nI (1073741823)))]) hx hb dJ20_numberOfTrailingZeros_26 hl (k := 0) rfl (by decide) (by decide) rfl (fun ls hl => ?_)
        refine lv_iload_n hx hb dJ20_numberOfTrailingZeros_29 rfl (lv_at hl 1 rfl) ?_
        refine lv_bipush (v := nI (16)) hx hb dJ20_numberOfTrailingZeros_30 (by decide) ?_
        refine lv_iushr (v := nI (16383)) hx hb dJ20_numberOfTrailingZeros_32 (by decide) ?_
        refine lv_istore_n (lv' := [(0, .int (nI (16383))), (1, .int (nI (17)))]) hx hb dJ20_numberOfTrailingZeros_33 rfl hl (by decide) rfl (fun ls hl => ?_)
        refine lv_iload_n hx hb dJ20_numberOfTrailingZeros_34 rfl (lv_at hl 0 rfl) ?_
        refine lv_sipush (v := nI (256)) hx hb dJ20_numberOfTrailingZeros_35 (by decide) ?_
        refine lv_icmp_le (tgt := 49) hx hb dJ20_numberOfTrailingZeros_38 (by decide) (fun c_149 => ?_) (fun c_149 => ?_)
        · exact absurd c_149 (by decide)
        · refine lv_iinc (v := nI (25)) (lv' := [(1, .int (nI (25))), (0, .int (nI (16383)))]) hx hb dJ20_numberOfTrailingZeros_41 hl (k := 1) rfl (by decide) (by decide) rfl (fun ls hl => ?_)
          refine lv_iload_n hx hb dJ20_numberOfTrailingZeros_44 rfl (lv_at hl 1 rfl) ?_
          refine lv_bipush (v := nI (8)) hx hb dJ20_numberOfTrailingZeros_45 (by decide) ?_
          refine lv_iushr (v := nI (63)) hx hb dJ20_numberOfTrailingZeros_47 (by decide) ?_
          refine lv_istore_n (lv' := [(0, .int (nI (63))), (1, .int (nI (25)))]) hx hb dJ20_numberOfTrailingZeros_48 rfl hl (by decide) rfl (fun ls hl => ?_)
          refine lv_iload_n hx hb dJ20_numberOfTrailingZeros_49 rfl (lv_at hl 0 rfl) ?_
          refine lv_bipush (v := nI (16)) hx hb dJ20_numberOfTrailingZeros_50 (by decide) ?_
          refine lv_icmp_le (tgt := 62) hx hb dJ20_numberOfTrailingZeros_52 (by decide) (fun c_150 => ?_) (fun c_150 => ?_)
          · exact absurd c_150 (by decide)
          · refine lv_iinc (v := nI (29)) (lv' := [(1, .int (nI (29))), (0, .int (nI (63)))]) hx hb dJ20_numberOfTrailingZeros_55 hl (k := 1) rfl (by decide) (by decide) rfl (fun ls hl => ?_)
            refine lv_iload_n hx hb dJ20_numberOfTrailingZeros_58 rfl (lv_at hl 1 rfl) ?_
            refine lv_iconst (v := nI (4)) hx hb dJ20_numberOfTrailingZeros_59 (by decide) ?_
            refine lv_iushr (v := nI (3)) hx hb dJ20_numberOfTrailingZeros_60 (by decide) ?_
            refine lv_istore_n (lv' := [(0, .int (nI (3))), (1, .int (nI (29)))]) hx hb dJ20_numberOfTrailingZeros_61 rfl hl (by decide) rfl (fun ls hl => ?_)
            refine lv_iload_n hx hb dJ20_numberOfTrailingZeros_62 rfl (lv_at hl 0 rfl) ?_
            refine lv_iconst (v := nI (4)) hx hb dJ20_numberOfTrailingZeros_63 (by decide) ?_
            refine lv_icmp_le (tgt := 74) hx hb dJ20_numberOfTrailingZeros_64 (by decide) (fun c_151 => ?_) (fun c_151 => ?_)
            · refine lv_iload_n hx hb dJ20_numberOfTrailingZeros_74 rfl (lv_at hl 1 rfl) ?_
              refine lv_iload_n hx hb dJ20_numberOfTrailingZeros_75 rfl (lv_at hl 0 rfl) ?_
              refine lv_iconst (v := nI (1)) hx hb dJ20_numberOfTrailingZeros_76 (by decide) ?_
              refine lv_iushr (v := nI (1)) hx hb dJ20_numberOfTrailingZeros_77 (by decide) ?_
              refine lv_iadd hx hb dJ20_numberOfTrailingZeros_78 ?_
              refine lv_tope (y := nI (30)) (by decide) ?_
              exact z_iret (v := nI (30)) hx hb hr hS (⟨30, by decide, by decide, hlb⟩) (by omega) (by omega) dJ20_numberOfTrailingZeros_79
            · exact absurd c_151 (by decide)
    · exact absurd c_147 (by decide)
  · refine lv_tope (y := nI (2147483647)) (by decide) ?_
    refine lv_istore_n (lv' := [(0, .int (nI (2147483647)))]) hx hb dJ20_numberOfTrailingZeros_7 rfl hl (by decide) rfl (fun ls hl => ?_)
    refine lv_iload_n hx hb dJ20_numberOfTrailingZeros_8 rfl (lv_at hl 0 rfl) ?_
    refine lv_if_gt (tgt := 17) hx hb dJ20_numberOfTrailingZeros_9 (by decide) (fun c_152 => ?_) (fun c_152 => ?_)
    · refine lv_iconst (v := nI (1)) hx hb dJ20_numberOfTrailingZeros_17 (by decide) ?_
      refine lv_istore_n (lv' := [(1, .int (nI (1))), (0, .int (nI (2147483647)))]) hx hb dJ20_numberOfTrailingZeros_18 rfl hl (by decide) rfl (fun ls hl => ?_)
      refine lv_iload_n hx hb dJ20_numberOfTrailingZeros_19 rfl (lv_at hl 1 rfl) ?_
      refine lv_ldcw (v := nI (65536)) hx hb hown (hts _ q788) dJ20_numberOfTrailingZeros_20 ?_
      refine lv_icmp_le (tgt := 34) hx hb dJ20_numberOfTrailingZeros_23 (by decide) (fun c_153 => ?_) (fun c_153 => ?_)
      · exact absurd c_153 (by decide)
      · refine lv_iinc (v := nI (17)) (lv' := [(1, .int (nI (17))), (0, .int (nI (2147483647)))]) hx hb dJ20_numberOfTrailingZeros_26 hl (k := 0) rfl (by decide) (by decide) rfl (fun ls hl => ?_)
        refine lv_iload_n hx hb dJ20_numberOfTrailingZeros_29 rfl (lv_at hl 1 rfl) ?_
        refine lv_bipush (v := nI (16)) hx hb dJ20_numberOfTrailingZeros_30 (by decide) ?_
        refine lv_iushr (v := nI (32767)) hx hb dJ20_numberOfTrailingZeros_32 (by decide) ?_
        refine lv_istore_n (lv' := [(0, .int (nI (32767))), (1, .int (nI (17)))]) hx hb dJ20_numberOfTrailingZeros_33 rfl hl (by decide) rfl (fun ls hl => ?_)
        refine lv_iload_n hx hb dJ20_numberOfTrailingZeros_34 rfl (lv_at hl 0 rfl) ?_
        refine lv_sipush (v := nI (256)) hx hb dJ20_numberOfTrailingZeros_35 (by decide) ?_
        refine lv_icmp_le (tgt := 49) hx hb dJ20_numberOfTrailingZeros_38 (by decide) (fun c_154 => ?_) (fun c_154 => ?_)
        · exact absurd c_154 (by decide)
        · refine lv_iinc (v := nI (25)) (lv' := [(1, .int (nI (25))), (0, .int (nI (32767)))]) hx hb dJ20_numberOfTrailingZeros_41 hl (k := 1) rfl (by decide) (by decide) rfl (fun ls hl => ?_)
          refine lv_iload_n hx hb dJ20_numberOfTrailingZeros_44 rfl (lv_at hl 1 rfl) ?_
          refine lv_bipush (v := nI (8)) hx hb dJ20_numberOfTrailingZeros_45 (by decide) ?_
          refine lv_iushr (v := nI (127)) hx hb dJ20_numberOfTrailingZeros_47 (by decide) ?_
          refine lv_istore_n (lv' := [(0, .int (nI (127))), (1, .int (nI (25)))]) hx hb dJ20_numberOfTrailingZeros_48 rfl hl (by decide) rfl (fun ls hl => ?_)
          refine lv_iload_n hx hb dJ20_numberOfTrailingZeros_49 rfl (lv_at hl 0 rfl) ?_
          refine lv_bipush (v := nI (16)) hx hb dJ20_numberOfTrailingZeros_50 (by decide) ?_
          refine lv_icmp_le (tgt := 62) hx hb dJ20_numberOfTrailingZeros_52 (by decide) (fun c_155 => ?_) (fun c_155 => ?_)
          · exact absurd c_155 (by decide)
          · refine lv_iinc (v := nI (29)) (lv' := [(1, .int (nI (29))), (0, .int (nI (127)))]) hx hb dJ20_numberOfTrailingZeros_55 hl (k := 1) rfl (by decide) (by decide) rfl (fun ls hl => ?_)
            refine lv_iload_n hx hb dJ20_numberOfTrailingZeros_58 rfl (lv_at hl 1 rfl) ?_
            refine lv_iconst (v := nI (4)) hx hb dJ20_numberOfTrailingZeros_59 (by decide) ?_
            refine lv_iushr (v := nI (7)) hx hb dJ20_numberOfTrailingZeros_60 (by decide) ?_
            refine lv_istore_n (lv' := [(0, .int (nI (7))), (1, .int (nI (29)))]) hx hb dJ20_numberOfTrailingZeros_61 rfl hl (by decide) rfl (fun ls hl => ?_)
            refine lv_iload_n hx hb dJ20_numberOfTrailingZeros_62 rfl (lv_at hl 0 rfl) ?_
            refine lv_iconst (v := nI (4)) hx hb dJ20_numberOfTrailingZeros_63 (by decide) ?_
            refine lv_icmp_le (tgt := 74) hx hb dJ20_numberOfTrailingZeros_64 (by decide) (fun c_156 => ?_) (fun c_156 => ?_)
            · exact absurd c_156 (by decide)
            · refine lv_iinc (v := nI (31)) (lv' := [(1, .int (nI (31))), (0, .int (nI (7)))]) hx hb dJ20_numberOfTrailingZeros_67 hl (k := 1) rfl (by decide) (by decide) rfl (fun ls hl => ?_)
              refine lv_iload_n hx hb dJ20_numberOfTrailingZeros_70 rfl (lv_at hl 1 rfl) ?_
              refine lv_iconst (v := nI (2)) hx hb dJ20_numberOfTrailingZeros_71 (by decide) ?_
              refine lv_iushr (v := nI (1)) hx hb dJ20_numberOfTrailingZeros_72 (by decide) ?_
              refine lv_istore_n (lv' := [(0, .int (nI (1))), (1, .int (nI (31)))]) hx hb dJ20_numberOfTrailingZeros_73 rfl hl (by decide) rfl (fun ls hl => ?_)
              refine lv_iload_n hx hb dJ20_numberOfTrailingZeros_74 rfl (lv_at hl 1 rfl) ?_
              refine lv_iload_n hx hb dJ20_numberOfTrailingZeros_75 rfl (lv_at hl 0 rfl) ?_
              refine lv_iconst (v := nI (1)) hx hb dJ20_numberOfTrailingZeros_76 (by decide) ?_
              refine lv_iushr (v := nI (0)) hx hb dJ20_numberOfTrailingZeros_77 (by decide) ?_
              refine lv_iadd hx hb dJ20_numberOfTrailingZeros_78 ?_
              refine lv_tope (y := nI (31)) (by decide) ?_
              exact z_iret (v := nI (31)) hx hb hr hS (⟨31, by decide, by decide, hlb⟩) (by omega) (by omega) dJ20_numberOfTrailingZeros_79
    · exact absurd c_152 (by decide)

set_option maxHeartbeats 4000000 in
set_option maxRecDepth 100000 in
theorem mJ18_numberOfTrailingZeros (l : Launch) (D : va_G) (dA : Nat → ClassId) (ad : Nat → Nat) (sz : Nat) (w : Nat) (h1 : 1 ≤ w) (h2 : w < 2 ^ 64) : Met l yJ18_numberOfTrailingZeros (ws_ yJ18_numberOfTrailingZeros cJ18_numberOfTrailingZeros 3 (some .int)) ({ frames := 1, cells := 0, slots := 0, locals := 30 }) (va_Pc [.long (lN (w))] (zP D dA ad (fun q => sz ≤ q) sz (fun H => True))) (zQi (fun rz H => (∃ r, rz = nI r ∧ r ≤ 63 ∧ LowB w r)) (fun q => sz ≤ q)) (0) (0) (fun q => sz ≤ q) := by
  refine Met.ofW (cc := cJ18_numberOfTrailingZeros) (maxL := 3) (ret := (some .int)) (by decide) rfl ?_
  intro p e s m args below meth c s₁ B hml hv
  obtain ⟨rfl, hsz, hC, hP⟩ := hv
  have hx := B.exec
  have hb := B.bytes
  have hr := B.returns
  have hts := atoms_spec (ws := ws_ yJ18_numberOfTrailingZeros cJ18_numberOfTrailingZeros 3 (some .int)) B.pre
  have hts : ∀ w ∈ lw_all, w.before _ s = true := fun w h => hts w (List.mem_cons_of_mem _ h)
  have hown : s.vm.findClass RJ18 = some m.cls := findClass_of_methodNamed B.named
  have hlocks := B.notSynchronized
  subst hsz
  have hK := hC.K
  have hA : ∀ q : Nat, s.heap.size ≤ q → s.heap.size ≤ q := fun _ h => h
  have hS : va_S (fun q => s.heap.size ≤ q) s.heap s.heap [] := va_S.rf
  have hP : va_P D vwCl [] s.heap := va_Pnil
  have hl := lv_entry ([.long (lN (w))]) (n := 3) (Nat.le_of_ble_eq_true rfl)
  rw [lg_entry_eq]
  generalize (lg_sl ([.long (lN (w))]) ++ List.replicate (3 - (lg_sl ([.long (lN (w))])).length) Slot.unset).toArray = ls at hl ⊢
  have hl : lv_has ls 3 [(0, .long (lN (w)))] := hl
  refine lv_lload_n hx hb dJ18_numberOfTrailingZeros_0 rfl (lv_at hl 0 rfl) ?_
  refine lv_l2i (v := nI (w % 2 ^ 32)) hx hb dJ18_numberOfTrailingZeros_1 (by rw [l2i_n]; exact nI_m32 w) ?_
  refine lv_istore_n (lv' := [(2, .int (nI (w % 2 ^ 32))), (0, .long (lN (w)))]) hx hb dJ18_numberOfTrailingZeros_2 rfl hl (by decide) rfl (fun ls hl => ?_)
  refine lv_iload_n hx hb dJ18_numberOfTrailingZeros_3 rfl (lv_at hl 0 rfl) ?_
  refine lv_if_ne (tgt := 21) hx hb dJ18_numberOfTrailingZeros_4 (by decide) (fun c_1 => ?_) (fun c_1 => ?_)
  · have c_1 := mt (nI0_32 (Nat.mod_lt _ (Nat.two_pow_pos 32))).2 c_1
    refine lv_iload_n hx hb dJ18_numberOfTrailingZeros_21 rfl (lv_at hl 0 rfl) ?_
    refine z_cSi (As := [.int (nI (w % 2 ^ 32))]) (rest := []) ⟨hx, hb, hml, hown, hts⟩ (mJ20_numberOfTrailingZeros l D dA ad s.heap.size (w % 2 ^ 32) (by omega) (by omega)) (va_cwS 1 hts (lw_S q995 q996 q83 q997) rfl rfl rfl (by decide +kernel) ⟨Nat.le_of_ble_eq_true rfl, Nat.le_of_ble_eq_true rfl⟩) hC hS (fun _ h => hA _ (Nat.le_trans hS.1 h)) trivial rfl rfl hl.1 (Nat.le_of_ble_eq_true rfl) dJ18_numberOfTrailingZeros_22 ⟨Nat.le_of_ble_eq_true rfl, Nat.le_of_ble_eq_true rfl⟩ (fun r_2 H locs hQ hF hS => ?_)
    obtain ⟨r9, hr9, hr8, hr7⟩ := hQ
    exact z_iret (v := r_2) hx hb hr hS (⟨r9, hr9, by omega, LowB.lo (by omega) hr7⟩) (by omega) (by omega) dJ18_numberOfTrailingZeros_25
  · have c_1 := (nI0_32 (Nat.mod_lt _ (Nat.two_pow_pos 32))).1 c_1
    refine lv_bipush (v := nI (32)) hx hb dJ18_numberOfTrailingZeros_7 (by decide) ?_
    refine lv_lload_n hx hb dJ18_numberOfTrailingZeros_9 rfl (lv_at hl 1 rfl) ?_
    refine lv_bipush (v := nI (32)) hx hb dJ18_numberOfTrailingZeros_10 (by decide) ?_
    refine lv_lushr (v := lN (w / 2 ^ 32)) hx hb dJ18_numberOfTrailingZeros_12 (wb_shr h2 (by decide)) ?_
    refine lv_l2i (v := nI (w / 2 ^ 32)) hx hb dJ18_numberOfTrailingZeros_13 (l2i_n _) ?_
    refine z_cSi (As := [.int (nI (w / 2 ^ 32))]) (rest := [.int (nI (32))]) ⟨hx, hb, hml, hown, hts⟩ (mJ20_numberOfTrailingZeros l D dA ad s.heap.size (w / 2 ^ 32) (by omega) (by omega)) (va_cwS 1 hts (lw_S q995 q996 q83 q997) rfl rfl rfl (by decide +kernel) ⟨Nat.le_of_ble_eq_true rfl, Nat.le_of_ble_eq_true rfl⟩) hC hS (fun _ h => hA _ (Nat.le_trans hS.1 h)) trivial rfl rfl hl.1 (Nat.le_of_ble_eq_true rfl) dJ18_numberOfTrailingZeros_14 ⟨Nat.le_of_ble_eq_true rfl, Nat.le_of_ble_eq_true rfl⟩ (fun r_3 H locs hQ hF hS => ?_)
    obtain ⟨r9, hr9, hr8, hr7⟩ := hQ
    refine lv_iadd hx hb dJ18_numberOfTrailingZeros_17 ?_
    refine lv_tope (y := nI (32 + r9)) (by rw [hr9]; exact nI_add _ _) ?_
    refine lv_goto (tgt := 25) hx hb dJ18_numberOfTrailingZeros_18 (by decide) ?_
    exact z_iret (v := nI (32 + r9)) hx hb hr hS (⟨32 + r9, rfl, by omega, LowB.hi c_1 hr7⟩) (by omega) (by omega) dJ18_numberOfTrailingZeros_25

set_option maxHeartbeats 4000000 in
set_option maxRecDepth 100000 in
theorem mJ3_nextSetBit (l : Launch) (D : va_G) (dA : Nat → ClassId) (ad : Nat → Nat) (sz : Nat) (bs : Nat) (bw : Nat) (stk : Int32) (Wb : Nat) (hW : Wb < 2 ^ 101) : Met l yJ3_nextSetBit (ws_ yJ3_nextSetBit cJ3_nextSetBit 5 (some .int)) ({ frames := 2, cells := 0, slots := 0, locals := 60 }) (va_Pc [.ref bs, .int (nI (0))] (zP D dA ad (fun q => sz ≤ q) sz (fun H => va_P D vwCl [(bs, .inr (10, [.ref bw, .int (nI (uOf Wb)), .int stk])), (bw, .inl (dA 1, 2, .inr (.inl (lwd Wb))))] H))) (zQi (fun rz H => ((Wb = 0 ∧ rz = (-1)) ∨ ∃ r, rz = nI r ∧ r ≤ 100 ∧ LowB Wb r)) (fun q => sz ≤ q)) (0) (0) (fun q => sz ≤ q) := by
  refine Met.ofW (cc := cJ3_nextSetBit) (maxL := 5) (ret := (some .int)) (by decide) rfl ?_
  intro p e s m args below meth c s₁ B hml hv
  obtain ⟨rfl, hsz, hC, hP⟩ := hv
  have hx := B.exec
  have hb := B.bytes
  have hr := B.returns
  have hts := atoms_spec (ws := ws_ yJ3_nextSetBit cJ3_nextSetBit 5 (some .int)) B.pre
  have hts : ∀ w ∈ lw_all, w.before _ s = true := fun w h => hts w (List.mem_cons_of_mem _ h)
  have hown : s.vm.findClass RJ3 = some m.cls := findClass_of_methodNamed B.named
  have hlocks := B.notSynchronized
  subst hsz
  have hK := hC.K
  have hA : ∀ q : Nat, s.heap.size ≤ q → s.heap.size ≤ q := fun _ h => h
  have hS : va_S (fun q => s.heap.size ≤ q) s.heap s.heap [] := va_S.rf
  have hP : va_P D vwCl [(bs, .inr (10, [.ref bw, .int (nI (uOf Wb)), .int stk])), (bw, .inl (dA 1, 2, .inr (.inl (lwd Wb))))] s.heap := hP
  have hm9 := Nat.mod_lt Wb (Nat.two_pow_pos 64)
  have hl := lv_entry ([.ref bs, .int (nI (0))]) (n := 5) (Nat.le_of_ble_eq_true rfl)
  rw [lg_entry_eq]
  generalize (lg_sl ([.ref bs, .int (nI (0))]) ++ List.replicate (5 - (lg_sl ([.ref bs, .int (nI (0))])).length) Slot.unset).toArray = ls at hl ⊢
  have hl : lv_has ls 5 [(0, .ref bs), (1, .int (nI (0)))] := hl
  rcases uOf_c Wb with ⟨hu, hu2⟩ | ⟨hu, hu2, hu3⟩ | ⟨hu, hu2⟩
  · rw [hu] at hP
    have hP : va_P D vwCl [(bs, .inr (10, [.ref bw, .int (nI (0)), .int stk])), (bw, .inl (dA 1, 2, .inr (.inl (lwd Wb))))] _ := hP
    refine lv_iload_n hx hb dJ3_nextSetBit_0 rfl (lv_at hl 1 rfl) ?_
    refine lv_if_ge (tgt := 31) hx hb dJ3_nextSetBit_1 (by decide) (fun c_1 => ?_) (fun c_1 => ?_)
    · refine lv_aload_n hx hb dJ3_nextSetBit_31 rfl (lv_at hl 0 rfl) ?_
      refine z_cVv (As := []) (rest := []) ⟨hx, hb, hml, hown, hts⟩ (mJ3_checkInvariants l D dA ad s.heap.size bs) (cwV 0 hts (lw_V q442 q444 qs6 q61 q445) rfl rfl rfl (by decide +kernel) ⟨Nat.le_of_ble_eq_true rfl, Nat.le_of_ble_eq_true rfl⟩) hC hS (fun _ h => hA _ (Nat.le_trans hS.1 h)) trivial (va_recv hK hP (ci := 10) (q0 := 0) rfl rfl) rfl rfl hl.1 (Nat.le_of_ble_eq_true rfl) dJ3_nextSetBit_32 ⟨Nat.le_of_ble_eq_true rfl, Nat.le_of_ble_eq_true rfl⟩ (fun H locs hQ hF hS => ?_)
      have hP := va_P.ro hF hP
      refine lv_iload_n hx hb dJ3_nextSetBit_35 rfl (lv_at hl 1 rfl) ?_
      refine z_cSi (As := [.int (nI (0))]) (rest := []) ⟨hx, hb, hml, hown, hts⟩ (mJ3_wordIndex l D dA ad H.size 0 (by omega)) (va_cwS 1 hts (lw_S q157 q158 q61 q159) rfl rfl rfl (by decide +kernel) ⟨Nat.le_of_ble_eq_true rfl, Nat.le_of_ble_eq_true rfl⟩) hC hS (fun _ h => hA _ (Nat.le_trans hS.1 h)) trivial rfl rfl hl.1 (Nat.le_of_ble_eq_true rfl) dJ3_nextSetBit_36 ⟨Nat.le_of_ble_eq_true rfl, Nat.le_of_ble_eq_true rfl⟩ (fun r_3 H locs hQ hF hS => ?_)
      have hP := va_P.ro hF hP
      obtain rfl : nI (0 / 64) = r_3 := hQ.symm
      refine lv_tope (y := nI (0)) (rfl) ?_
      refine lv_istore_n (lv' := [(2, .int (nI (0))), (0, .ref bs), (1, .int (nI (0)))]) hx hb dJ3_nextSetBit_39 rfl hl (by decide) rfl (fun ls hl => ?_)
      refine lv_iload_n hx hb dJ3_nextSetBit_40 rfl (lv_at hl 0 rfl) ?_
      refine lv_aload_n hx hb dJ3_nextSetBit_41 rfl (lv_at hl 1 rfl) ?_
      refine va_get (D := D) (ci := 10) (v := .int (nI (0))) (C := RJ3) (T := TJ3) (N := 3) hx hb hts in_J3 hown hK hP 0 rfl rfl 1 (by decide) (hts _ q161) (fun _ h9 => h9) rfl dJ3_nextSetBit_42 ?_
      refine lv_icmp_lt (tgt := 50) hx hb dJ3_nextSetBit_45 (by decide) (fun c_4 => ?_) (fun c_4 => ?_)
      · exact absurd c_4 (by decide)
      · refine lv_iconst (v := (-1)) hx hb dJ3_nextSetBit_48 (by decide) ?_
        exact z_iret (v := (-1)) hx hb hr hS (Or.inl ⟨hu2, rfl⟩) (by omega) (by omega) dJ3_nextSetBit_49
    · exact absurd c_1 (by decide)
  · rw [hu] at hP
    have hP : va_P D vwCl [(bs, .inr (10, [.ref bw, .int (nI (1)), .int stk])), (bw, .inl (dA 1, 2, .inr (.inl (lwd Wb))))] _ := hP
    refine lv_iload_n hx hb dJ3_nextSetBit_0 rfl (lv_at hl 1 rfl) ?_
    refine lv_if_ge (tgt := 31) hx hb dJ3_nextSetBit_1 (by decide) (fun c_5 => ?_) (fun c_5 => ?_)
    · refine lv_aload_n hx hb dJ3_nextSetBit_31 rfl (lv_at hl 0 rfl) ?_
      refine z_cVv (As := []) (rest := []) ⟨hx, hb, hml, hown, hts⟩ (mJ3_checkInvariants l D dA ad s.heap.size bs) (cwV 0 hts (lw_V q442 q444 qs6 q61 q445) rfl rfl rfl (by decide +kernel) ⟨Nat.le_of_ble_eq_true rfl, Nat.le_of_ble_eq_true rfl⟩) hC hS (fun _ h => hA _ (Nat.le_trans hS.1 h)) trivial (va_recv hK hP (ci := 10) (q0 := 0) rfl rfl) rfl rfl hl.1 (Nat.le_of_ble_eq_true rfl) dJ3_nextSetBit_32 ⟨Nat.le_of_ble_eq_true rfl, Nat.le_of_ble_eq_true rfl⟩ (fun H locs hQ hF hS => ?_)
      have hP := va_P.ro hF hP
      refine lv_iload_n hx hb dJ3_nextSetBit_35 rfl (lv_at hl 1 rfl) ?_
      refine z_cSi (As := [.int (nI (0))]) (rest := []) ⟨hx, hb, hml, hown, hts⟩ (mJ3_wordIndex l D dA ad H.size 0 (by omega)) (va_cwS 1 hts (lw_S q157 q158 q61 q159) rfl rfl rfl (by decide +kernel) ⟨Nat.le_of_ble_eq_true rfl, Nat.le_of_ble_eq_true rfl⟩) hC hS (fun _ h => hA _ (Nat.le_trans hS.1 h)) trivial rfl rfl hl.1 (Nat.le_of_ble_eq_true rfl) dJ3_nextSetBit_36 ⟨Nat.le_of_ble_eq_true rfl, Nat.le_of_ble_eq_true rfl⟩ (fun r_7 H locs hQ hF hS => ?_)
      have hP := va_P.ro hF hP
      obtain rfl : nI (0 / 64) = r_7 := hQ.symm
      refine lv_tope (y := nI (0)) (rfl) ?_
      refine lv_istore_n (lv' := [(2, .int (nI (0))), (0, .ref bs), (1, .int (nI (0)))]) hx hb dJ3_nextSetBit_39 rfl hl (by decide) rfl (fun ls hl => ?_)
      refine lv_iload_n hx hb dJ3_nextSetBit_40 rfl (lv_at hl 0 rfl) ?_
      refine lv_aload_n hx hb dJ3_nextSetBit_41 rfl (lv_at hl 1 rfl) ?_
      refine va_get (D := D) (ci := 10) (v := .int (nI (1))) (C := RJ3) (T := TJ3) (N := 3) hx hb hts in_J3 hown hK hP 0 rfl rfl 1 (by decide) (hts _ q161) (fun _ h9 => h9) rfl dJ3_nextSetBit_42 ?_
      refine lv_icmp_lt (tgt := 50) hx hb dJ3_nextSetBit_45 (by decide) (fun c_8 => ?_) (fun c_8 => ?_)
      · refine lv_aload_n hx hb dJ3_nextSetBit_50 rfl (lv_at hl 1 rfl) ?_
        refine va_get (D := D) (ci := 10) (v := .ref bw) (C := RJ3) (T := TJ3) (N := 3) hx hb hts in_J3 hown hK hP 0 rfl rfl 0 (by decide) (hts _ q160) (fun _ h9 => h9) rfl dJ3_nextSetBit_51 ?_
        refine lv_iload_n hx hb dJ3_nextSetBit_54 rfl (lv_at hl 0 rfl) ?_
        refine va_lald hx hb hK hP 1 1 rfl rfl (vp_in_nI (by omega) (by omega)) dJ3_nextSetBit_55 ?_
        refine lv_topel (y := (lwd Wb) 0) (by rw [nI_clamp (by omega)]) ?_
        refine lv_topel (y := lN (Wb % 2 ^ 64)) (rfl) ?_
        refine lv_ldc2 (v := (-1)) hx hb hown (hts _ q789) dJ3_nextSetBit_56 ?_
        refine lv_iload_n hx hb dJ3_nextSetBit_59 rfl (lv_at hl 2 rfl) ?_
        refine lv_lshl (v := lN (2 ^ 64 - 2 ^ (0 % 64))) hx hb dJ3_nextSetBit_60 (bw_mo 0 (by decide)) ?_
        refine lv_land hx hb dJ3_nextSetBit_61 ?_
        refine lv_topel (y := lN (Wb % 2 ^ 64)) (and_all hm9) ?_
        refine lv_lstore_n (lv' := [(3, .long (lN (Wb % 2 ^ 64))), (2, .int (nI (0))), (0, .ref bs), (1, .int (nI (0)))]) hx hb dJ3_nextSetBit_62 rfl hl (by decide) rfl (fun ls hl => ?_)
        refine lv_lload_n hx hb dJ3_nextSetBit_63 rfl (lv_at hl 0 rfl) ?_
        refine lv_lconst (v := lN (0)) hx hb dJ3_nextSetBit_64 (by decide) ?_
        refine W.lcmp hx hb dJ3_nextSetBit_65 ?_
        refine lv_if_eq (tgt := 79) hx hb dJ3_nextSetBit_66 (by decide) (fun c_9 => ?_) (fun c_9 => ?_)
        · have c_9 := (lg_cmp_eq _ _).1 c_9
          have c_9 := (lN_inj64 (by omega) (by decide)).1 c_9
          refine lv_iinc (v := nI (1)) (lv' := [(2, .int (nI (1))), (3, .long (lN (Wb % 2 ^ 64))), (0, .ref bs), (1, .int (nI (0)))]) hx hb dJ3_nextSetBit_79 hl (k := 1) rfl (by decide) (by decide) rfl (fun ls hl => ?_)
          refine lv_iload_n hx hb dJ3_nextSetBit_82 rfl (lv_at hl 0 rfl) ?_
          refine lv_aload_n hx hb dJ3_nextSetBit_83 rfl (lv_at hl 2 rfl) ?_
          refine va_get (D := D) (ci := 10) (v := .int (nI (1))) (C := RJ3) (T := TJ3) (N := 3) hx hb hts in_J3 hown hK hP 0 rfl rfl 1 (by decide) (hts _ q161) (fun _ h9 => h9) rfl dJ3_nextSetBit_84 ?_
          refine lv_icmp_ne (tgt := 92) hx hb dJ3_nextSetBit_87 (by decide) (fun c_10 => ?_) (fun c_10 => ?_)
          · exact absurd c_10 (by decide)
          · refine lv_iconst (v := (-1)) hx hb dJ3_nextSetBit_90 (by decide) ?_
            exact z_iret (v := (-1)) hx hb hr hS (absurd (show False by omega) not_false) (by omega) (by omega) dJ3_nextSetBit_91
        · have c_9 := mt (lg_cmp_eq _ _).2 c_9
          have c_9 := mt (lN_inj64 (by omega) (by decide)).2 c_9
          refine lv_iload_n hx hb dJ3_nextSetBit_69 rfl (lv_at hl 1 rfl) ?_
          refine lv_bipush (v := nI (64)) hx hb dJ3_nextSetBit_70 (by decide) ?_
          refine lv_imul hx hb dJ3_nextSetBit_72 ?_
          refine lv_tope (y := nI (0)) (by decide) ?_
          refine lv_lload_n hx hb dJ3_nextSetBit_73 rfl (lv_at hl 0 rfl) ?_
          refine z_cSi (As := [.long (lN (Wb % 2 ^ 64))]) (rest := [.int (nI (0))]) ⟨hx, hb, hml, hown, hts⟩ (mJ18_numberOfTrailingZeros l D dA ad H.size (Wb % 2 ^ 64) (by omega) (by omega)) (va_cwS 1 hts (lw_S q992 q993 q81 q994) rfl rfl rfl (by decide +kernel) ⟨Nat.le_of_ble_eq_true rfl, Nat.le_of_ble_eq_true rfl⟩) hC hS (fun _ h => hA _ (Nat.le_trans hS.1 h)) trivial rfl rfl hl.1 (Nat.le_of_ble_eq_true rfl) dJ3_nextSetBit_74 ⟨Nat.le_of_ble_eq_true rfl, Nat.le_of_ble_eq_true rfl⟩ (fun r_11 H locs hQ hF hS => ?_)
          have hP := va_P.ro hF hP
          obtain ⟨r9, hr9, hr8, hr7⟩ := hQ
          refine lv_iadd hx hb dJ3_nextSetBit_77 ?_
          refine lv_tope (y := nI (r9)) (by rw [hr9]; exact (nI_add 0 r9).trans (by rw [Nat.zero_add])) ?_
          exact z_iret (v := nI (r9)) hx hb hr hS (Or.inr ⟨r9, rfl, Nat.lt_succ_iff.1 ((hr7.mo (by omega)).lt hW), hr7.mo (by omega)⟩) (by omega) (by omega) dJ3_nextSetBit_78
      · exact absurd c_8 (by decide)
    · exact absurd c_5 (by decide)
  · rw [hu] at hP
    have hP : va_P D vwCl [(bs, .inr (10, [.ref bw, .int (nI (2)), .int stk])), (bw, .inl (dA 1, 2, .inr (.inl (lwd Wb))))] _ := hP
    refine lv_iload_n hx hb dJ3_nextSetBit_0 rfl (lv_at hl 1 rfl) ?_
    refine lv_if_ge (tgt := 31) hx hb dJ3_nextSetBit_1 (by decide) (fun c_12 => ?_) (fun c_12 => ?_)
    · refine lv_aload_n hx hb dJ3_nextSetBit_31 rfl (lv_at hl 0 rfl) ?_
      refine z_cVv (As := []) (rest := []) ⟨hx, hb, hml, hown, hts⟩ (mJ3_checkInvariants l D dA ad s.heap.size bs) (cwV 0 hts (lw_V q442 q444 qs6 q61 q445) rfl rfl rfl (by decide +kernel) ⟨Nat.le_of_ble_eq_true rfl, Nat.le_of_ble_eq_true rfl⟩) hC hS (fun _ h => hA _ (Nat.le_trans hS.1 h)) trivial (va_recv hK hP (ci := 10) (q0 := 0) rfl rfl) rfl rfl hl.1 (Nat.le_of_ble_eq_true rfl) dJ3_nextSetBit_32 ⟨Nat.le_of_ble_eq_true rfl, Nat.le_of_ble_eq_true rfl⟩ (fun H locs hQ hF hS => ?_)
      have hP := va_P.ro hF hP
      refine lv_iload_n hx hb dJ3_nextSetBit_35 rfl (lv_at hl 1 rfl) ?_
      refine z_cSi (As := [.int (nI (0))]) (rest := []) ⟨hx, hb, hml, hown, hts⟩ (mJ3_wordIndex l D dA ad H.size 0 (by omega)) (va_cwS 1 hts (lw_S q157 q158 q61 q159) rfl rfl rfl (by decide +kernel) ⟨Nat.le_of_ble_eq_true rfl, Nat.le_of_ble_eq_true rfl⟩) hC hS (fun _ h => hA _ (Nat.le_trans hS.1 h)) trivial rfl rfl hl.1 (Nat.le_of_ble_eq_true rfl) dJ3_nextSetBit_36 ⟨Nat.le_of_ble_eq_true rfl, Nat.le_of_ble_eq_true rfl⟩ (fun r_14 H locs hQ hF hS => ?_)
      have hP := va_P.ro hF hP
      obtain rfl : nI (0 / 64) = r_14 := hQ.symm
      refine lv_tope (y := nI (0)) (rfl) ?_
      refine lv_istore_n (lv' := [(2, .int (nI (0))), (0, .ref bs), (1, .int (nI (0)))]) hx hb dJ3_nextSetBit_39 rfl hl (by decide) rfl (fun ls hl => ?_)
      refine lv_iload_n hx hb dJ3_nextSetBit_40 rfl (lv_at hl 0 rfl) ?_
      refine lv_aload_n hx hb dJ3_nextSetBit_41 rfl (lv_at hl 1 rfl) ?_
      refine va_get (D := D) (ci := 10) (v := .int (nI (2))) (C := RJ3) (T := TJ3) (N := 3) hx hb hts in_J3 hown hK hP 0 rfl rfl 1 (by decide) (hts _ q161) (fun _ h9 => h9) rfl dJ3_nextSetBit_42 ?_
      refine lv_icmp_lt (tgt := 50) hx hb dJ3_nextSetBit_45 (by decide) (fun c_15 => ?_) (fun c_15 => ?_)
      · refine lv_aload_n hx hb dJ3_nextSetBit_50 rfl (lv_at hl 1 rfl) ?_
        refine va_get (D := D) (ci := 10) (v := .ref bw) (C := RJ3) (T := TJ3) (N := 3) hx hb hts in_J3 hown hK hP 0 rfl rfl 0 (by decide) (hts _ q160) (fun _ h9 => h9) rfl dJ3_nextSetBit_51 ?_
        refine lv_iload_n hx hb dJ3_nextSetBit_54 rfl (lv_at hl 0 rfl) ?_
        refine va_lald hx hb hK hP 1 1 rfl rfl (vp_in_nI (by omega) (by omega)) dJ3_nextSetBit_55 ?_
        refine lv_topel (y := (lwd Wb) 0) (by rw [nI_clamp (by omega)]) ?_
        refine lv_topel (y := lN (Wb % 2 ^ 64)) (rfl) ?_
        refine lv_ldc2 (v := (-1)) hx hb hown (hts _ q789) dJ3_nextSetBit_56 ?_
        refine lv_iload_n hx hb dJ3_nextSetBit_59 rfl (lv_at hl 2 rfl) ?_
        refine lv_lshl (v := lN (2 ^ 64 - 2 ^ (0 % 64))) hx hb dJ3_nextSetBit_60 (bw_mo 0 (by decide)) ?_
        refine lv_land hx hb dJ3_nextSetBit_61 ?_
        refine lv_topel (y := lN (Wb % 2 ^ 64)) (and_all hm9) ?_
        refine lv_lstore_n (lv' := [(3, .long (lN (Wb % 2 ^ 64))), (2, .int (nI (0))), (0, .ref bs), (1, .int (nI (0)))]) hx hb dJ3_nextSetBit_62 rfl hl (by decide) rfl (fun ls hl => ?_)
        refine lv_lload_n hx hb dJ3_nextSetBit_63 rfl (lv_at hl 0 rfl) ?_
        refine lv_lconst (v := lN (0)) hx hb dJ3_nextSetBit_64 (by decide) ?_
        refine W.lcmp hx hb dJ3_nextSetBit_65 ?_
        refine lv_if_eq (tgt := 79) hx hb dJ3_nextSetBit_66 (by decide) (fun c_16 => ?_) (fun c_16 => ?_)
        · have c_16 := (lg_cmp_eq _ _).1 c_16
          have c_16 := (lN_inj64 (by omega) (by decide)).1 c_16
          refine lv_iinc (v := nI (1)) (lv' := [(2, .int (nI (1))), (3, .long (lN (Wb % 2 ^ 64))), (0, .ref bs), (1, .int (nI (0)))]) hx hb dJ3_nextSetBit_79 hl (k := 1) rfl (by decide) (by decide) rfl (fun ls hl => ?_)
          refine lv_iload_n hx hb dJ3_nextSetBit_82 rfl (lv_at hl 0 rfl) ?_
          refine lv_aload_n hx hb dJ3_nextSetBit_83 rfl (lv_at hl 2 rfl) ?_
          refine va_get (D := D) (ci := 10) (v := .int (nI (2))) (C := RJ3) (T := TJ3) (N := 3) hx hb hts in_J3 hown hK hP 0 rfl rfl 1 (by decide) (hts _ q161) (fun _ h9 => h9) rfl dJ3_nextSetBit_84 ?_
          refine lv_icmp_ne (tgt := 92) hx hb dJ3_nextSetBit_87 (by decide) (fun c_17 => ?_) (fun c_17 => ?_)
          · refine lv_aload_n hx hb dJ3_nextSetBit_92 rfl (lv_at hl 2 rfl) ?_
            refine va_get (D := D) (ci := 10) (v := .ref bw) (C := RJ3) (T := TJ3) (N := 3) hx hb hts in_J3 hown hK hP 0 rfl rfl 0 (by decide) (hts _ q160) (fun _ h9 => h9) rfl dJ3_nextSetBit_93 ?_
            refine lv_iload_n hx hb dJ3_nextSetBit_96 rfl (lv_at hl 0 rfl) ?_
            refine va_lald hx hb hK hP 1 1 rfl rfl (vp_in_nI (by omega) (by omega)) dJ3_nextSetBit_97 ?_
            refine lv_topel (y := (lwd Wb) 1) (by rw [nI_clamp (by omega)]) ?_
            refine lv_topel (y := lN (Wb / 2 ^ 64)) (rfl) ?_
            refine lv_lstore_n (lv' := [(3, .long (lN (Wb / 2 ^ 64))), (2, .int (nI (1))), (0, .ref bs), (1, .int (nI (0)))]) hx hb dJ3_nextSetBit_98 rfl hl (by decide) rfl (fun ls hl => ?_)
            refine lv_goto (tgt := 63) hx hb dJ3_nextSetBit_99 (by decide) ?_
            refine lv_lload_n hx hb dJ3_nextSetBit_63 rfl (lv_at hl 0 rfl) ?_
            refine lv_lconst (v := lN (0)) hx hb dJ3_nextSetBit_64 (by decide) ?_
            refine W.lcmp hx hb dJ3_nextSetBit_65 ?_
            refine lv_if_eq (tgt := 79) hx hb dJ3_nextSetBit_66 (by decide) (fun c_18 => ?_) (fun c_18 => ?_)
            · have c_18 := (lg_cmp_eq _ _).1 c_18
              have c_18 := (lN_inj64 (by omega) (by decide)).1 c_18
              refine lv_iinc (v := nI (2)) (lv' := [(2, .int (nI (2))), (3, .long (lN (Wb / 2 ^ 64))), (0, .ref bs), (1, .int (nI (0)))]) hx hb dJ3_nextSetBit_79 hl (k := 1) rfl (by decide) (by decide) rfl (fun ls hl => ?_)
              refine lv_iload_n hx hb dJ3_nextSetBit_82 rfl (lv_at hl 0 rfl) ?_
              refine lv_aload_n hx hb dJ3_nextSetBit_83 rfl (lv_at hl 2 rfl) ?_
              refine va_get (D := D) (ci := 10) (v := .int (nI (2))) (C := RJ3) (T := TJ3) (N := 3) hx hb hts in_J3 hown hK hP 0 rfl rfl 1 (by decide) (hts _ q161) (fun _ h9 => h9) rfl dJ3_nextSetBit_84 ?_
              refine lv_icmp_ne (tgt := 92) hx hb dJ3_nextSetBit_87 (by decide) (fun c_19 => ?_) (fun c_19 => ?_)
              · exact absurd c_19 (by decide)
              · refine lv_iconst (v := (-1)) hx hb dJ3_nextSetBit_90 (by decide) ?_
                exact z_iret (v := (-1)) hx hb hr hS (absurd (show False by omega) not_false) (by omega) (by omega) dJ3_nextSetBit_91
            · have c_18 := mt (lg_cmp_eq _ _).2 c_18
              have c_18 := mt (lN_inj64 (by omega) (by decide)).2 c_18
              refine lv_iload_n hx hb dJ3_nextSetBit_69 rfl (lv_at hl 1 rfl) ?_
              refine lv_bipush (v := nI (64)) hx hb dJ3_nextSetBit_70 (by decide) ?_
              refine lv_imul hx hb dJ3_nextSetBit_72 ?_
              refine lv_tope (y := nI (64)) (by decide) ?_
              refine lv_lload_n hx hb dJ3_nextSetBit_73 rfl (lv_at hl 0 rfl) ?_
              refine z_cSi (As := [.long (lN (Wb / 2 ^ 64))]) (rest := [.int (nI (64))]) ⟨hx, hb, hml, hown, hts⟩ (mJ18_numberOfTrailingZeros l D dA ad H.size (Wb / 2 ^ 64) (by omega) (by omega)) (va_cwS 1 hts (lw_S q992 q993 q81 q994) rfl rfl rfl (by decide +kernel) ⟨Nat.le_of_ble_eq_true rfl, Nat.le_of_ble_eq_true rfl⟩) hC hS (fun _ h => hA _ (Nat.le_trans hS.1 h)) trivial rfl rfl hl.1 (Nat.le_of_ble_eq_true rfl) dJ3_nextSetBit_74 ⟨Nat.le_of_ble_eq_true rfl, Nat.le_of_ble_eq_true rfl⟩ (fun r_20 H locs hQ hF hS => ?_)
              have hP := va_P.ro hF hP
              obtain ⟨r9, hr9, hr8, hr7⟩ := hQ
              refine lv_iadd hx hb dJ3_nextSetBit_77 ?_
              refine lv_tope (y := nI (64 + r9)) (by rw [hr9]; exact nI_add _ _) ?_
              exact z_iret (v := nI (64 + r9)) hx hb hr hS (Or.inr ⟨64 + r9, rfl, Nat.lt_succ_iff.1 ((hr7.hi (n := 64) (by omega)).lt hW), hr7.hi (n := 64) (by omega)⟩) (by omega) (by omega) dJ3_nextSetBit_78
          · exact absurd c_17 (by decide)
        · have c_16 := mt (lg_cmp_eq _ _).2 c_16
          have c_16 := mt (lN_inj64 (by omega) (by decide)).2 c_16
          refine lv_iload_n hx hb dJ3_nextSetBit_69 rfl (lv_at hl 1 rfl) ?_
          refine lv_bipush (v := nI (64)) hx hb dJ3_nextSetBit_70 (by decide) ?_
          refine lv_imul hx hb dJ3_nextSetBit_72 ?_
          refine lv_tope (y := nI (0)) (by decide) ?_
          refine lv_lload_n hx hb dJ3_nextSetBit_73 rfl (lv_at hl 0 rfl) ?_
          refine z_cSi (As := [.long (lN (Wb % 2 ^ 64))]) (rest := [.int (nI (0))]) ⟨hx, hb, hml, hown, hts⟩ (mJ18_numberOfTrailingZeros l D dA ad H.size (Wb % 2 ^ 64) (by omega) (by omega)) (va_cwS 1 hts (lw_S q992 q993 q81 q994) rfl rfl rfl (by decide +kernel) ⟨Nat.le_of_ble_eq_true rfl, Nat.le_of_ble_eq_true rfl⟩) hC hS (fun _ h => hA _ (Nat.le_trans hS.1 h)) trivial rfl rfl hl.1 (Nat.le_of_ble_eq_true rfl) dJ3_nextSetBit_74 ⟨Nat.le_of_ble_eq_true rfl, Nat.le_of_ble_eq_true rfl⟩ (fun r_21 H locs hQ hF hS => ?_)
          have hP := va_P.ro hF hP
          obtain ⟨r9, hr9, hr8, hr7⟩ := hQ
          refine lv_iadd hx hb dJ3_nextSetBit_77 ?_
          refine lv_tope (y := nI (r9)) (by rw [hr9]; exact (nI_add 0 r9).trans (by rw [Nat.zero_add])) ?_
          exact z_iret (v := nI (r9)) hx hb hr hS (Or.inr ⟨r9, rfl, Nat.lt_succ_iff.1 ((hr7.mo (by omega)).lt hW), hr7.mo (by omega)⟩) (by omega) (by omega) dJ3_nextSetBit_78
      · exact absurd c_15 (by decide)
    · exact absurd c_12 (by decide)
