set_option maxHeartbeats 4000000 in
theorem mt_Kind_values (E : EE) (l : Launch) : Mt E l yX11_values cX11_values 0 (some (.array (.object "Quorumspire$Kind"))) 1 1 6 22 [] [] (fun (v_ : Option Value) (cs_ : List va_W) => ∃ (q : Nat), v_ = some (.ref q) ∧ cs_ = [[(q, qA (aC E 6) 6 (fun i => some (aK E i)))]]) := by
  refine Mt.of (by decide) (Nat.le_of_ble_eq_true rfl) (fun X hX hR hin => ?_)
  refine g_lv1 (lv1 := []) rfl ?_
  refine g_gets hX (pc := 0) (v := .ref (aX E 2)) (cx_gs hX).2.2.2.2.1 q1322 rfl dX11_values_0 ?_
  refine g_clone hX (pc := 3) q1324 q1327 (Nat.le_of_ble_eq_true rfl) (Nat.le_of_ble_eq_true rfl) (Nat.le_of_ble_eq_true rfl) (Nat.le_of_ble_eq_true rfl) dX11_values_3 (fun q1 => ?_)
  refine g_castK hX (pc := 6) (sp_mem (i := 0) rfl) q1329 dX11_values_6 ?_
  refine g_aret hX (pc := 9) hR (by first | exact Or.inl ⟨_, rfl⟩ | exact Or.inr ⟨_, rfl⟩) ?_ (Nat.le_of_ble_eq_true rfl) (Nat.le_of_ble_eq_true rfl) dX11_values_9
  exact ⟨_, rfl, rfl⟩

set_option maxHeartbeats 4000000 in
theorem mt_Q_isInB (E : EE) (l : Launch) (v : Int32) (a : Int32) (b : Int32) : Mt E l yX1_isIn cX1_isIn 3 (some .boolean) 1 0 0 1 [.int v, .int a, .int b] [] (fun (v_ : Option Value) (cs_ : List va_W) => v_ = some (.int (bI (inB v a b))) ∧ cs_ = []) := by
  refine Mt.of (by decide) (Nat.le_of_ble_eq_true rfl) (fun X hX hR hin => ?_)
  refine g_lv1 (lv1 := [(0, .int v), (1, .int a), (2, .int b)]) rfl ?_
  refine g_iload_n hX (pc := 0) dX1_isIn_0 0 rfl ?_
  refine g_iload_n hX (pc := 1) dX1_isIn_1 1 rfl ?_
  refine g_val (v := if v < a then 0 else (if b < v then 0 else 1)) (pcJ := 15) (st1 := []) (fun hj1 => ?_) ?_
  · refine g_icmp_lt hX (pc := 2) (tgt := 14) dX1_isIn_2 rfl (fun c2 => ?_) (fun c2 => ?_)
    · refine g_iconst hX (pc := 14) (v := 0) dX1_isIn_14 (by decide) ?_
      exact hj1 _ (by rw [if_pos c2])
    · refine g_iload_n hX (pc := 5) dX1_isIn_5 0 rfl ?_
      refine g_iload_n hX (pc := 6) dX1_isIn_6 2 rfl ?_
      refine g_icmp_gt hX (pc := 7) (tgt := 14) dX1_isIn_7 rfl (fun c3 => ?_) (fun c3 => ?_)
      · refine g_iconst hX (pc := 14) (v := 0) dX1_isIn_14 (by decide) ?_
        exact hj1 _ (by rw [if_neg c2, if_pos c3])
      · refine g_iconst hX (pc := 10) (v := 1) dX1_isIn_10 (by decide) ?_
        refine g_goto hX (pc := 11) (tgt := 15) dX1_isIn_11 rfl ?_
        exact hj1 _ (by rw [if_neg c2, if_neg c3])
  refine g_zret hX (pc := 15) hR (by (repeat' split) <;> rfl) ?_ (Nat.le_of_ble_eq_true rfl) (Nat.le_of_ble_eq_true rfl) dX1_isIn_15
  refine ⟨?_, rfl⟩
  unfold inB
  rw [← bI_fi]
  by_cases h1 : v < a <;> by_cases h2 : b < v <;> simp [h1, h2]

set_option maxHeartbeats 4000000 in
theorem mt_Q_canBe (E : EE) (l : Launch) (kd : Nat) (ky : Int32) (a : Int32) (b : Int32) (hk : (kd < 6)) : Mt E l yX1_canBe cX1_canBe 5 (some .boolean) 2 0 0 23 [.ref (aK E kd), .int ky, .int a, .int b] [] (fun (v_ : Option Value) (cs_ : List va_W) => v_ = some (.int (bI (canB kd ky a b))) ∧ cs_ = []) := by
  refine Mt.of (by decide) (Nat.le_of_ble_eq_true rfl) (fun X hX hR hin => ?_)
  refine g_lv1 (lv1 := [(0, .ref (aK E kd)), (1, .int ky), (2, .int a), (3, .int b)]) rfl ?_
  refine g_iload_n hX (pc := 0) dX1_canBe_0 1 rfl ?_
  refine g_iconst hX (pc := 1) (v := 0) dX1_canBe_1 (by decide) ?_
  refine g_iconst hX (pc := 2) (v := 3) dX1_canBe_2 (by decide) ?_
  refine g_callS hX (pc := 3) kX1_isIn (mt_Q_isInB E l ky 0 3) q1333 [] rfl rfl rfl (Nat.le_of_ble_eq_true rfl) (Nat.le_of_ble_eq_true rfl) (Nat.le_of_ble_eq_true rfl) (Nat.le_of_ble_eq_true rfl) (Nat.le_of_ble_eq_true rfl) dX1_canBe_3 (fun v w1 hp => ?_)
  obtain ⟨rfl, rfl⟩ := hp
  refine g_nrm (cs1 := []) (st1 := [.int (bI (inB ky 0 3))]) rfl rfl ?_
  refine g_istore hX (pc := 6) (lv1 := [(4, .int (bI (inB ky 0 3))), (0, .ref (aK E kd)), (1, .int ky), (2, .int a), (3, .int b)]) dX1_canBe_6 (by decide) rfl ?_
  refine g_aload_n hX (pc := 8) dX1_canBe_8 1 rfl ?_
  refine g_callU hX (pc := 9) (C := "Quorumspire$Kind") (owner := "java/lang/Enum") (x := ⟨"Quorumspire$Kind", "ordinal", "()I"⟩) (y := yJ11_ordinal) (n := 0) q804 q803 q810 q91 q809 rfl ⟨by decide +kernel, by decide +kernel, by decide +kernel⟩ (mt_ordK E l kd (by omega)) q808 (fun H locs hP hS => va_recvE (cx_gs hX).1 (i := kd) (by show _ < 6; omega) hS) [] rfl rfl rfl (Nat.le_of_ble_eq_true rfl) (Nat.le_of_ble_eq_true rfl) (Nat.le_of_ble_eq_true rfl) (Nat.le_of_ble_eq_true rfl) (Nat.le_of_ble_eq_true rfl) dX1_canBe_9 (fun v w1 hp => ?_)
  obtain ⟨rfl, rfl⟩ := hp
  refine g_nrm (cs1 := []) (st1 := [.int (nI kd)]) rfl rfl ?_
  rcases (show kd = 0 ∨ kd = 1 ∨ kd = 2 ∨ kd = 3 ∨ kd = 4 ∨ kd = 5 ∨ (kd < 0 ∨ 5 < kd) by omega) with h12_0 | h12_1 | h12_2 | h12_3 | h12_4 | h12_5 | h12_d
  · refine g_tableIn hX (pc := 12) (tgt := 52) (off := 40) dX1_canBe_12 (by rw [h12_0]; decide) (by rw [h12_0]; decide) (by rw [h12_0]; rfl) rfl ?_
    refine g_iload hX (pc := 52) dX1_canBe_52 0 rfl ?_
    refine g_if_eq hX (pc := 54) (tgt := 75) dX1_canBe_54 rfl (fun c1_ => ?_) (fun c1_ => ?_)
    · have c1 := bI_0.mp c1_
      refine g_iconst hX (pc := 75) (v := 0) dX1_canBe_75 (by decide) ?_
      refine g_zret hX (pc := 76) hR rfl ?_ (Nat.le_of_ble_eq_true rfl) (Nat.le_of_ble_eq_true rfl) dX1_canBe_76
      refine ⟨?_, rfl⟩
      rw [show canB kd ky a b = (inB ky 0 3 && inB a 0 99 && decide (b = 0)) from by subst h12_0; rfl]
      generalize inB ky 0 3 = x0_ at *
      generalize inB a 0 99 = x1_ at *
      by_cases hb0 : b = 0 <;> by_cases ha0 : a = 0 <;> cases x0_ <;> cases x1_ <;> simp_all [bI]
    · have c1 := mt bI_0.mpr c1_
      refine g_iload_n hX (pc := 57) dX1_canBe_57 3 rfl ?_
      refine g_iconst hX (pc := 58) (v := 0) dX1_canBe_58 (by decide) ?_
      refine g_bipush hX (pc := 59) (v := 99) dX1_canBe_59 (by decide) ?_
      refine g_callS hX (pc := 61) kX1_isIn (mt_Q_isInB E l a 0 99) q1333 [] rfl rfl rfl (Nat.le_of_ble_eq_true rfl) (Nat.le_of_ble_eq_true rfl) (Nat.le_of_ble_eq_true rfl) (Nat.le_of_ble_eq_true rfl) (Nat.le_of_ble_eq_true rfl) dX1_canBe_61 (fun v w1 hp => ?_)
      obtain ⟨rfl, rfl⟩ := hp
      refine g_nrm (cs1 := []) (st1 := [.int (bI (inB a 0 99))]) rfl rfl ?_
      refine g_val (v := if (inB a 0 99) = false then 0 else (if b = 0 then 1 else 0)) (pcJ := 76) (st1 := []) (fun hj2 => ?_) ?_
      · refine g_if_eq hX (pc := 64) (tgt := 75) dX1_canBe_64 rfl (fun c3_ => ?_) (fun c3_ => ?_)
        · have c3 := bI_0.mp c3_
          refine g_iconst hX (pc := 75) (v := 0) dX1_canBe_75 (by decide) ?_
          exact hj2 _ (by rw [if_pos c3])
        · have c3 := mt bI_0.mpr c3_
          refine g_iload_n hX (pc := 67) dX1_canBe_67 4 rfl ?_
          refine g_if_ne hX (pc := 68) (tgt := 75) dX1_canBe_68 rfl (fun c4 => ?_) (fun c4 => ?_)
          · refine g_iconst hX (pc := 75) (v := 0) dX1_canBe_75 (by decide) ?_
            exact hj2 _ (by rw [if_neg c3, if_neg c4])
          · refine g_iconst hX (pc := 71) (v := 1) dX1_canBe_71 (by decide) ?_
            refine g_goto hX (pc := 72) (tgt := 76) dX1_canBe_72 rfl ?_
            exact hj2 _ (by rw [if_neg c3, if_pos c4])
      refine g_zret hX (pc := 76) hR (by (repeat' split) <;> rfl) ?_ (Nat.le_of_ble_eq_true rfl) (Nat.le_of_ble_eq_true rfl) dX1_canBe_76
      refine ⟨?_, rfl⟩
      rw [show canB kd ky a b = (inB ky 0 3 && inB a 0 99 && decide (b = 0)) from by subst h12_0; rfl]
      generalize inB ky 0 3 = x0_ at *
      generalize inB a 0 99 = x1_ at *
      by_cases hb0 : b = 0 <;> by_cases ha0 : a = 0 <;> cases x0_ <;> cases x1_ <;> simp_all [bI]
  · refine g_tableIn hX (pc := 12) (tgt := 157) (off := 145) dX1_canBe_12 (by rw [h12_1]; decide) (by rw [h12_1]; decide) (by rw [h12_1]; rfl) rfl ?_
    refine g_iload hX (pc := 157) dX1_canBe_157 0 rfl ?_
    refine g_val (v := if (inB ky 0 3) = false then 0 else (if a = 0 then (if b = 0 then 1 else 0) else 0)) (pcJ := 175) (st1 := []) (fun hj5 => ?_) ?_
    · refine g_if_eq hX (pc := 159) (tgt := 174) dX1_canBe_159 rfl (fun c6_ => ?_) (fun c6_ => ?_)
      · have c6 := bI_0.mp c6_
        refine g_iconst hX (pc := 174) (v := 0) dX1_canBe_174 (by decide) ?_
        exact hj5 _ (by rw [if_pos c6])
      · have c6 := mt bI_0.mpr c6_
        refine g_iload_n hX (pc := 162) dX1_canBe_162 3 rfl ?_
        refine g_if_ne hX (pc := 163) (tgt := 174) dX1_canBe_163 rfl (fun c7 => ?_) (fun c7 => ?_)
        · refine g_iconst hX (pc := 174) (v := 0) dX1_canBe_174 (by decide) ?_
          exact hj5 _ (by rw [if_neg c6, if_neg c7])
        · refine g_iload_n hX (pc := 166) dX1_canBe_166 4 rfl ?_
          refine g_if_ne hX (pc := 167) (tgt := 174) dX1_canBe_167 rfl (fun c8 => ?_) (fun c8 => ?_)
          · refine g_iconst hX (pc := 174) (v := 0) dX1_canBe_174 (by decide) ?_
            exact hj5 _ (by rw [if_neg c6, if_pos c7, if_neg c8])
          · refine g_iconst hX (pc := 170) (v := 1) dX1_canBe_170 (by decide) ?_
            refine g_goto hX (pc := 171) (tgt := 175) dX1_canBe_171 rfl ?_
            exact hj5 _ (by rw [if_neg c6, if_pos c7, if_pos c8])
    refine g_zret hX (pc := 175) hR (by (repeat' split) <;> rfl) ?_ (Nat.le_of_ble_eq_true rfl) (Nat.le_of_ble_eq_true rfl) dX1_canBe_175
    refine ⟨?_, rfl⟩
    rw [show canB kd ky a b = (inB ky 0 3 && decide (a = 0) && decide (b = 0)) from by subst h12_1; rfl]
    generalize inB ky 0 3 = x0_ at *
    by_cases hb0 : b = 0 <;> by_cases ha0 : a = 0 <;> cases x0_ <;> simp_all [bI]
  · refine g_tableIn hX (pc := 12) (tgt := 77) (off := 65) dX1_canBe_12 (by rw [h12_2]; decide) (by rw [h12_2]; decide) (by rw [h12_2]; rfl) rfl ?_
    refine g_iload hX (pc := 77) dX1_canBe_77 0 rfl ?_
    refine g_if_eq hX (pc := 79) (tgt := 106) dX1_canBe_79 rfl (fun c9_ => ?_) (fun c9_ => ?_)
    · have c9 := bI_0.mp c9_
      refine g_iconst hX (pc := 106) (v := 0) dX1_canBe_106 (by decide) ?_
      refine g_zret hX (pc := 107) hR rfl ?_ (Nat.le_of_ble_eq_true rfl) (Nat.le_of_ble_eq_true rfl) dX1_canBe_107
      refine ⟨?_, rfl⟩
      rw [show canB kd ky a b = (inB ky 0 3 && inB a 0 99 && inB b 0 99) from by subst h12_2; rfl]
      generalize inB ky 0 3 = x0_ at *
      generalize inB a 0 99 = x1_ at *
      generalize inB b 0 99 = x2_ at *
      cases x0_ <;> cases x1_ <;> cases x2_ <;> first | rfl | exact absurd rfl (by assumption) | exact absurd (by assumption) (by decide)
    · have c9 := mt bI_0.mpr c9_
      refine g_iload_n hX (pc := 82) dX1_canBe_82 3 rfl ?_
      refine g_iconst hX (pc := 83) (v := 0) dX1_canBe_83 (by decide) ?_
      refine g_bipush hX (pc := 84) (v := 99) dX1_canBe_84 (by decide) ?_
      refine g_callS hX (pc := 86) kX1_isIn (mt_Q_isInB E l a 0 99) q1333 [] rfl rfl rfl (Nat.le_of_ble_eq_true rfl) (Nat.le_of_ble_eq_true rfl) (Nat.le_of_ble_eq_true rfl) (Nat.le_of_ble_eq_true rfl) (Nat.le_of_ble_eq_true rfl) dX1_canBe_86 (fun v w1 hp => ?_)
      obtain ⟨rfl, rfl⟩ := hp
      refine g_nrm (cs1 := []) (st1 := [.int (bI (inB a 0 99))]) rfl rfl ?_
      refine g_if_eq hX (pc := 89) (tgt := 106) dX1_canBe_89 rfl (fun c10_ => ?_) (fun c10_ => ?_)
      · have c10 := bI_0.mp c10_
        refine g_iconst hX (pc := 106) (v := 0) dX1_canBe_106 (by decide) ?_
        refine g_zret hX (pc := 107) hR rfl ?_ (Nat.le_of_ble_eq_true rfl) (Nat.le_of_ble_eq_true rfl) dX1_canBe_107
        refine ⟨?_, rfl⟩
        rw [show canB kd ky a b = (inB ky 0 3 && inB a 0 99 && inB b 0 99) from by subst h12_2; rfl]
        generalize inB ky 0 3 = x0_ at *
        generalize inB a 0 99 = x1_ at *
        generalize inB b 0 99 = x2_ at *
        cases x0_ <;> cases x1_ <;> cases x2_ <;> first | rfl | exact absurd rfl (by assumption) | exact absurd (by assumption) (by decide)
      · have c10 := mt bI_0.mpr c10_
        refine g_iload_n hX (pc := 92) dX1_canBe_92 4 rfl ?_
        refine g_iconst hX (pc := 93) (v := 0) dX1_canBe_93 (by decide) ?_
        refine g_bipush hX (pc := 94) (v := 99) dX1_canBe_94 (by decide) ?_
        refine g_callS hX (pc := 96) kX1_isIn (mt_Q_isInB E l b 0 99) q1333 [] rfl rfl rfl (Nat.le_of_ble_eq_true rfl) (Nat.le_of_ble_eq_true rfl) (Nat.le_of_ble_eq_true rfl) (Nat.le_of_ble_eq_true rfl) (Nat.le_of_ble_eq_true rfl) dX1_canBe_96 (fun v w1 hp => ?_)
        obtain ⟨rfl, rfl⟩ := hp
        refine g_nrm (cs1 := []) (st1 := [.int (bI (inB b 0 99))]) rfl rfl ?_
        refine g_val (v := if (inB b 0 99) = false then 0 else 1) (pcJ := 107) (st1 := []) (fun hj11 => ?_) ?_
        · refine g_if_eq hX (pc := 99) (tgt := 106) dX1_canBe_99 rfl (fun c12_ => ?_) (fun c12_ => ?_)
          · have c12 := bI_0.mp c12_
            refine g_iconst hX (pc := 106) (v := 0) dX1_canBe_106 (by decide) ?_
            exact hj11 _ (by rw [if_pos c12])
          · have c12 := mt bI_0.mpr c12_
            refine g_iconst hX (pc := 102) (v := 1) dX1_canBe_102 (by decide) ?_
            refine g_goto hX (pc := 103) (tgt := 107) dX1_canBe_103 rfl ?_
            exact hj11 _ (by rw [if_neg c12])
        refine g_zret hX (pc := 107) hR (nz01 _) ?_ (Nat.le_of_ble_eq_true rfl) (Nat.le_of_ble_eq_true rfl) dX1_canBe_107
        refine ⟨?_, rfl⟩
        rw [show canB kd ky a b = (inB ky 0 3 && inB a 0 99 && inB b 0 99) from by subst h12_2; rfl]
        generalize inB ky 0 3 = x0_ at *
        generalize inB a 0 99 = x1_ at *
        generalize inB b 0 99 = x2_ at *
        cases x0_ <;> cases x1_ <;> cases x2_ <;> first | rfl | exact absurd rfl (by assumption) | exact absurd (by assumption) (by decide)
  · refine g_tableIn hX (pc := 12) (tgt := 108) (off := 96) dX1_canBe_12 (by rw [h12_3]; decide) (by rw [h12_3]; decide) (by rw [h12_3]; rfl) rfl ?_
    refine g_iload hX (pc := 108) dX1_canBe_108 0 rfl ?_
    refine g_if_eq hX (pc := 110) (tgt := 131) dX1_canBe_110 rfl (fun c13_ => ?_) (fun c13_ => ?_)
    · have c13 := bI_0.mp c13_
      refine g_iconst hX (pc := 131) (v := 0) dX1_canBe_131 (by decide) ?_
      refine g_zret hX (pc := 132) hR rfl ?_ (Nat.le_of_ble_eq_true rfl) (Nat.le_of_ble_eq_true rfl) dX1_canBe_132
      refine ⟨?_, rfl⟩
      rw [show canB kd ky a b = (inB ky 0 3 && inB a 0 9 && decide (b = 0)) from by subst h12_3; rfl]
      generalize inB ky 0 3 = x0_ at *
      generalize inB a 0 9 = x1_ at *
      by_cases hb0 : b = 0 <;> by_cases ha0 : a = 0 <;> cases x0_ <;> cases x1_ <;> simp_all [bI]
    · have c13 := mt bI_0.mpr c13_
      refine g_iload_n hX (pc := 113) dX1_canBe_113 3 rfl ?_
      refine g_iconst hX (pc := 114) (v := 0) dX1_canBe_114 (by decide) ?_
      refine g_bipush hX (pc := 115) (v := 9) dX1_canBe_115 (by decide) ?_
      refine g_callS hX (pc := 117) kX1_isIn (mt_Q_isInB E l a 0 9) q1333 [] rfl rfl rfl (Nat.le_of_ble_eq_true rfl) (Nat.le_of_ble_eq_true rfl) (Nat.le_of_ble_eq_true rfl) (Nat.le_of_ble_eq_true rfl) (Nat.le_of_ble_eq_true rfl) dX1_canBe_117 (fun v w1 hp => ?_)
      obtain ⟨rfl, rfl⟩ := hp
      refine g_nrm (cs1 := []) (st1 := [.int (bI (inB a 0 9))]) rfl rfl ?_
      refine g_val (v := if (inB a 0 9) = false then 0 else (if b = 0 then 1 else 0)) (pcJ := 132) (st1 := []) (fun hj14 => ?_) ?_
      · refine g_if_eq hX (pc := 120) (tgt := 131) dX1_canBe_120 rfl (fun c15_ => ?_) (fun c15_ => ?_)
        · have c15 := bI_0.mp c15_
          refine g_iconst hX (pc := 131) (v := 0) dX1_canBe_131 (by decide) ?_
          exact hj14 _ (by rw [if_pos c15])
        · have c15 := mt bI_0.mpr c15_
          refine g_iload_n hX (pc := 123) dX1_canBe_123 4 rfl ?_
          refine g_if_ne hX (pc := 124) (tgt := 131) dX1_canBe_124 rfl (fun c16 => ?_) (fun c16 => ?_)
          · refine g_iconst hX (pc := 131) (v := 0) dX1_canBe_131 (by decide) ?_
            exact hj14 _ (by rw [if_neg c15, if_neg c16])
          · refine g_iconst hX (pc := 127) (v := 1) dX1_canBe_127 (by decide) ?_
            refine g_goto hX (pc := 128) (tgt := 132) dX1_canBe_128 rfl ?_
            exact hj14 _ (by rw [if_neg c15, if_pos c16])
      refine g_zret hX (pc := 132) hR (by (repeat' split) <;> rfl) ?_ (Nat.le_of_ble_eq_true rfl) (Nat.le_of_ble_eq_true rfl) dX1_canBe_132
      refine ⟨?_, rfl⟩
      rw [show canB kd ky a b = (inB ky 0 3 && inB a 0 9 && decide (b = 0)) from by subst h12_3; rfl]
      generalize inB ky 0 3 = x0_ at *
      generalize inB a 0 9 = x1_ at *
      by_cases hb0 : b = 0 <;> by_cases ha0 : a = 0 <;> cases x0_ <;> cases x1_ <;> simp_all [bI]
  · refine g_tableIn hX (pc := 12) (tgt := 157) (off := 145) dX1_canBe_12 (by rw [h12_4]; decide) (by rw [h12_4]; decide) (by rw [h12_4]; rfl) rfl ?_
    refine g_iload hX (pc := 157) dX1_canBe_157 0 rfl ?_
    refine g_val (v := if (inB ky 0 3) = false then 0 else (if a = 0 then (if b = 0 then 1 else 0) else 0)) (pcJ := 175) (st1 := []) (fun hj17 => ?_) ?_
    · refine g_if_eq hX (pc := 159) (tgt := 174) dX1_canBe_159 rfl (fun c18_ => ?_) (fun c18_ => ?_)
      · have c18 := bI_0.mp c18_
        refine g_iconst hX (pc := 174) (v := 0) dX1_canBe_174 (by decide) ?_
        exact hj17 _ (by rw [if_pos c18])
      · have c18 := mt bI_0.mpr c18_
        refine g_iload_n hX (pc := 162) dX1_canBe_162 3 rfl ?_
        refine g_if_ne hX (pc := 163) (tgt := 174) dX1_canBe_163 rfl (fun c19 => ?_) (fun c19 => ?_)
        · refine g_iconst hX (pc := 174) (v := 0) dX1_canBe_174 (by decide) ?_
          exact hj17 _ (by rw [if_neg c18, if_neg c19])
        · refine g_iload_n hX (pc := 166) dX1_canBe_166 4 rfl ?_
          refine g_if_ne hX (pc := 167) (tgt := 174) dX1_canBe_167 rfl (fun c20 => ?_) (fun c20 => ?_)
          · refine g_iconst hX (pc := 174) (v := 0) dX1_canBe_174 (by decide) ?_
            exact hj17 _ (by rw [if_neg c18, if_pos c19, if_neg c20])
          · refine g_iconst hX (pc := 170) (v := 1) dX1_canBe_170 (by decide) ?_
            refine g_goto hX (pc := 171) (tgt := 175) dX1_canBe_171 rfl ?_
            exact hj17 _ (by rw [if_neg c18, if_pos c19, if_pos c20])
    refine g_zret hX (pc := 175) hR (by (repeat' split) <;> rfl) ?_ (Nat.le_of_ble_eq_true rfl) (Nat.le_of_ble_eq_true rfl) dX1_canBe_175
    refine ⟨?_, rfl⟩
    rw [show canB kd ky a b = (inB ky 0 3 && decide (a = 0) && decide (b = 0)) from by subst h12_4; rfl]
    generalize inB ky 0 3 = x0_ at *
    by_cases hb0 : b = 0 <;> by_cases ha0 : a = 0 <;> cases x0_ <;> simp_all [bI]
  · refine g_tableIn hX (pc := 12) (tgt := 133) (off := 121) dX1_canBe_12 (by rw [h12_5]; decide) (by rw [h12_5]; decide) (by rw [h12_5]; rfl) rfl ?_
    refine g_iload_n hX (pc := 133) dX1_canBe_133 2 rfl ?_
    refine g_if_ne hX (pc := 134) (tgt := 155) dX1_canBe_134 rfl (fun c21 => ?_) (fun c21 => ?_)
    · refine g_iconst hX (pc := 155) (v := 0) dX1_canBe_155 (by decide) ?_
      refine g_zret hX (pc := 156) hR rfl ?_ (Nat.le_of_ble_eq_true rfl) (Nat.le_of_ble_eq_true rfl) dX1_canBe_156
      refine ⟨?_, rfl⟩
      rw [show canB kd ky a b = (decide (ky = 0) && inB a 1 9 && decide (b = 0)) from by subst h12_5; rfl]
      generalize inB a 1 9 = x0_ at *
      by_cases hb0 : b = 0 <;> by_cases ha0 : a = 0 <;> by_cases hk0 : ky = 0 <;> cases x0_ <;> simp_all [bI]
    · refine g_iload_n hX (pc := 137) dX1_canBe_137 3 rfl ?_
      refine g_iconst hX (pc := 138) (v := 1) dX1_canBe_138 (by decide) ?_
      refine g_bipush hX (pc := 139) (v := 9) dX1_canBe_139 (by decide) ?_
      refine g_callS hX (pc := 141) kX1_isIn (mt_Q_isInB E l a 1 9) q1333 [] rfl rfl rfl (Nat.le_of_ble_eq_true rfl) (Nat.le_of_ble_eq_true rfl) (Nat.le_of_ble_eq_true rfl) (Nat.le_of_ble_eq_true rfl) (Nat.le_of_ble_eq_true rfl) dX1_canBe_141 (fun v w1 hp => ?_)
      obtain ⟨rfl, rfl⟩ := hp
      refine g_nrm (cs1 := []) (st1 := [.int (bI (inB a 1 9))]) rfl rfl ?_
      refine g_val (v := if (inB a 1 9) = false then 0 else (if b = 0 then 1 else 0)) (pcJ := 156) (st1 := []) (fun hj22 => ?_) ?_
      · refine g_if_eq hX (pc := 144) (tgt := 155) dX1_canBe_144 rfl (fun c23_ => ?_) (fun c23_ => ?_)
        · have c23 := bI_0.mp c23_
          refine g_iconst hX (pc := 155) (v := 0) dX1_canBe_155 (by decide) ?_
          exact hj22 _ (by rw [if_pos c23])
        · have c23 := mt bI_0.mpr c23_
          refine g_iload_n hX (pc := 147) dX1_canBe_147 4 rfl ?_
          refine g_if_ne hX (pc := 148) (tgt := 155) dX1_canBe_148 rfl (fun c24 => ?_) (fun c24 => ?_)
          · refine g_iconst hX (pc := 155) (v := 0) dX1_canBe_155 (by decide) ?_
            exact hj22 _ (by rw [if_neg c23, if_neg c24])
          · refine g_iconst hX (pc := 151) (v := 1) dX1_canBe_151 (by decide) ?_
            refine g_goto hX (pc := 152) (tgt := 156) dX1_canBe_152 rfl ?_
            exact hj22 _ (by rw [if_neg c23, if_pos c24])
      refine g_zret hX (pc := 156) hR (by (repeat' split) <;> rfl) ?_ (Nat.le_of_ble_eq_true rfl) (Nat.le_of_ble_eq_true rfl) dX1_canBe_156
      refine ⟨?_, rfl⟩
      rw [show canB kd ky a b = (decide (ky = 0) && inB a 1 9 && decide (b = 0)) from by subst h12_5; rfl]
      generalize inB a 1 9 = x0_ at *
      by_cases hb0 : b = 0 <;> by_cases ha0 : a = 0 <;> by_cases hk0 : ky = 0 <;> cases x0_ <;> simp_all [bI]
  · have h12_d : 5 < kd := by omega
    exact absurd hk (by omega)

set_option maxHeartbeats 4000000 in
theorem mt_Q_machine (E : EE) (l : Launch) (o : Nat) (n : Nat) (lm : Nat) (lb : Nat) (lr : Nat) (P : PN) (wm : va_W) (wM : va_W) (wb : va_W) (wr : va_W) (wq : va_W) (fz : va_W) (hML : ML E fz lm (nM P) wm wM) (hB : BL E fz lb (nB P) wb) (hRq : RL E lr (nR P) wr wq) (h5 : ((nM P).length < 5)) (h0 : (nNow P = 0)) (hr0 : ((nR P).length = 0)) : Mt E l yX1_machine cX1_machine 2 (some .int) 7 22 121 171 [.ref o] [[(o, ob 0 [.ref n])], [(n, ob 1 [.ref lm, .ref lb, .ref lr, .int (nLo P), .int (nNow P)])], wm, wM, wb, wr, wq, fz] (fun (v_ : Option Value) (cs_ : List va_W) => ∃ (fz1 : va_W) (w0 : va_W) (w1 : va_W), Ext E fz fz1 ∧ ML E fz1 lm (nM (oMachine P)) w0 w1 ∧ BL E fz1 lb (nB P) wb ∧ RL E lr (nR P) wr wq ∧ v_ = some (.int (nI (List.length (nM P)))) ∧ cs_ = [[(o, ob 0 [.ref n])], [(n, ob 1 [.ref lm, .ref lb, .ref lr, .int (nLo P), .int (nNow P)])], w0, w1, wb, wr, wq, fz1]) := by
  obtain ⟨mas, hAm, hml, hmok, hmore⟩ := ML.more hML
  obtain ⟨ras, hAr, hrl⟩ := RL.al hRq
  refine Mt.of (by decide) (Nat.le_of_ble_eq_true rfl) (fun X hX hR hin => ?_)
  refine g_lv1 (lv1 := [(0, .ref o)]) rfl ?_
  refine g_aload_n hX (pc := 0) dX1_machine_0 0 rfl ?_
  refine g_get hX (pc := 1) fcX1 0 rfl 0 (by decide) q176 rfl (v := .ref n) rfl dX1_machine_1 ?_
  refine g_getN hX (pc := 4) fcX2 1 rfl 0 (by decide) q156 rfl (v := .ref lm) rfl dX1_machine_4 ?_
  obtain ⟨fs1, hm2⟩ := AL.head hAm
  refine g_callF hX (pc := 7) kfJ2_size (mt_AL_size E l lm mas wm hAm) q738 fcJ2 (sp_in 2 rfl hm2) [2] rfl rfl rfl (Nat.le_of_ble_eq_true rfl) (Nat.le_of_ble_eq_true rfl) (Nat.le_of_ble_eq_true rfl) (by omega) (by omega) dX1_machine_7 (fun v w1 hp => ?_)
  obtain ⟨rfl, rfl⟩ := hp
  refine g_nrm (cs1 := [wm, [(o, ob 0 [.ref n])], [(n, ob 1 [.ref lm, .ref lb, .ref lr, .int (nLo P), .int (nNow P)])], wM, wb, wr, wq, fz]) (st1 := [.int (nI (List.length mas))]) rfl rfl ?_
  refine g_eqi (nI (List.length (nM P))) (by rw [hml]) ?_
  refine g_iconst hX (pc := 12) (v := 5) dX1_machine_12 (by decide) ?_
  refine g_icmp_ge hX (pc := 13) (tgt := 45) dX1_machine_13 rfl (fun c3 => ?_) (fun c3 => ?_)
  · exact absurd c3 (show ¬ nI 5 ≤ nI (List.length (nM P)) from nI_ge h5 (by omega))
  · refine g_aload_n hX (pc := 16) dX1_machine_16 0 rfl ?_
    refine g_get hX (pc := 17) fcX1 1 rfl 0 (by decide) q176 rfl (v := .ref n) rfl dX1_machine_17 ?_
    refine g_getN hX (pc := 20) fcX2 2 rfl 4 (by decide) q164 rfl (v := .int (nNow P)) rfl dX1_machine_20 ?_
    refine g_if_ne hX (pc := 23) (tgt := 45) dX1_machine_23 rfl (fun c4 => ?_) (fun c4 => ?_)
    · exact absurd h0 c4
    · refine g_aload_n hX (pc := 26) dX1_machine_26 0 rfl ?_
      refine g_get hX (pc := 27) fcX1 1 rfl 0 (by decide) q176 rfl (v := .ref n) rfl dX1_machine_27 ?_
      refine g_getN hX (pc := 30) fcX2 2 rfl 2 (by decide) q160 rfl (v := .ref lr) rfl dX1_machine_30 ?_
      obtain ⟨fs5, hm6⟩ := AL.head hAr
      refine g_callF hX (pc := 33) kfJ2_isEmpty (mt_AL_isEmpty E l lr ras wr hAr (by omega)) q1255 fcJ2 (sp_in 5 rfl hm6) [5] rfl rfl rfl (Nat.le_of_ble_eq_true rfl) (Nat.le_of_ble_eq_true rfl) (Nat.le_of_ble_eq_true rfl) (by omega) (by omega) dX1_machine_33 (fun v w1 hp => ?_)
      obtain ⟨rfl, rfl⟩ := hp
      refine g_nrm (cs1 := [wr, wm, [(o, ob 0 [.ref n])], [(n, ob 1 [.ref lm, .ref lb, .ref lr, .int (nLo P), .int (nNow P)])], wM, wb, wq, fz]) (st1 := [.int (if List.length ras = 0 then 1 else 0)]) rfl rfl ?_
      refine g_val (v := if List.length ras = 0 then 1 else 0) (pcJ := 46) (st1 := []) (fun hj7 => ?_) ?_
      · refine g_if_eq hX (pc := 38) (tgt := 45) dX1_machine_38 rfl (fun c8_ => ?_) (fun c8_ => ?_)
        · have c8 := z10.mp c8_
          refine g_iconst hX (pc := 45) (v := 0) dX1_machine_45 (by decide) ?_
          exact hj7 _ (by rw [if_neg c8])
        · have c8 := z10n.mp c8_
          refine g_iconst hX (pc := 41) (v := 1) dX1_machine_41 (by decide) ?_
          refine g_goto hX (pc := 42) (tgt := 46) dX1_machine_42 rfl ?_
          exact hj7 _ (by rw [if_pos c8])
      refine g_eqi 1 (if_pos (by omega)) ?_
      refine g_callS hX (pc := 46) kX1_checkState (mt_checkState E l ) q1268 [] rfl rfl rfl (Nat.le_of_ble_eq_true rfl) (Nat.le_of_ble_eq_true rfl) (Nat.le_of_ble_eq_true rfl) (by omega) (by omega) dX1_machine_46 (fun v w1 hp => ?_)
      obtain ⟨rfl, rfl⟩ := hp
      refine g_nrm (cs1 := [wr, wm, [(o, ob 0 [.ref n])], [(n, ob 1 [.ref lm, .ref lb, .ref lr, .int (nLo P), .int (nNow P)])], wM, wb, wq, fz]) (st1 := []) rfl rfl ?_
      refine g_new hX (pc := 49) fcX8 q1292 q890 q83 (fs := [.null, .null, .null, .null, .null, .null, .int 0]) (fun j hj => by match j, hj with | 0, _ => rfl | 1, _ => rfl | 2, _ => rfl | 3, _ => rfl | 4, _ => rfl | 5, _ => rfl | 6, _ => rfl | j + 7, h => exact absurd h (by omega)) (by omega) (by omega) dX1_machine_49 (fun q9 => ?_)
      refine g_dup hX (pc := 52) dX1_machine_52 rfl ?_
      refine g_callI hX (pc := 53) kX8_init (mt_Store_init E l q9) q1293 [0] rfl rfl rfl (Nat.le_of_ble_eq_true rfl) (Nat.le_of_ble_eq_true rfl) (Nat.le_of_ble_eq_true rfl) (by omega) (by omega) dX1_machine_53 (fun v w1 hp => ?_)
      obtain ⟨w10, h11, rfl, rfl⟩ := hp
      refine g_nrm (cs1 := [w10, wr, wm, [(o, ob 0 [.ref n])], [(n, ob 1 [.ref lm, .ref lb, .ref lr, .int (nLo P), .int (nNow P)])], wM, wb, wq, fz]) (st1 := [.ref q9]) rfl rfl ?_
      refine g_astore_n hX (pc := 56) (lv1 := [(1, .ref q9), (0, .ref o)]) dX1_machine_56 (by decide) rfl ?_
      refine g_aload_n hX (pc := 57) dX1_machine_57 1 rfl ?_
      refine g_get hX (pc := 58) fcX1 3 rfl 0 (by decide) q176 rfl (v := .ref n) rfl dX1_machine_58 ?_
      refine g_getN hX (pc := 61) fcX2 4 rfl 0 (by decide) q156 rfl (v := .ref lm) rfl dX1_machine_61 ?_
      refine g_new hX (pc := 64) fcX9 q1294 q826 q84 (fs := [.int 0, .null, .null, .null, .null, .null, .int 0, .int 0, .int 0, .int 0, .int 0]) (fun j hj => by match j, hj with | 0, _ => rfl | 1, _ => rfl | 2, _ => rfl | 3, _ => rfl | 4, _ => rfl | 5, _ => rfl | 6, _ => rfl | 7, _ => rfl | 8, _ => rfl | 9, _ => rfl | 10, _ => rfl | j + 11, h => exact absurd h (by omega)) (by omega) (by omega) dX1_machine_64 (fun q12 => ?_)
      refine g_dup hX (pc := 67) dX1_machine_67 rfl ?_
      refine g_aload_n hX (pc := 68) dX1_machine_68 1 rfl ?_
      refine g_get hX (pc := 69) fcX1 4 rfl 0 (by decide) q176 rfl (v := .ref n) rfl dX1_machine_69 ?_
      refine g_getN hX (pc := 72) fcX2 5 rfl 0 (by decide) q156 rfl (v := .ref lm) rfl dX1_machine_72 ?_
      refine g_callF hX (pc := 75) kfJ2_size (mt_AL_size E l lm mas wm hAm) q738 fcJ2 (sp_in 3 rfl hm2) [3] rfl rfl rfl (Nat.le_of_ble_eq_true rfl) (Nat.le_of_ble_eq_true rfl) (Nat.le_of_ble_eq_true rfl) (by omega) (by omega) dX1_machine_75 (fun v w1 hp => ?_)
      obtain ⟨rfl, rfl⟩ := hp
      refine g_nrm (cs1 := [wm, [(q12, ob 8 [.int 0, .null, .null, .null, .null, .null, .int 0, .int 0, .int 0, .int 0, .int 0])], w10, wr, [(o, ob 0 [.ref n])], [(n, ob 1 [.ref lm, .ref lb, .ref lr, .int (nLo P), .int (nNow P)])], wM, wb, wq, fz]) (st1 := [.int (nI (List.length mas)), .ref q12, .ref q12, .ref lm]) rfl rfl ?_
      refine g_eqi (nI (List.length (nM P))) (by rw [hml]) ?_
      refine g_new hX (pc := 80) fcX10 q1295 q832 q85 (fs := [.null, .int 0, .int 0, .int 0, .int 0, .null]) (fun j hj => by match j, hj with | 0, _ => rfl | 1, _ => rfl | 2, _ => rfl | 3, _ => rfl | 4, _ => rfl | 5, _ => rfl | j + 6, h => exact absurd h (by omega)) (by omega) (by omega) dX1_machine_80 (fun q13 => ?_)
      refine g_dup hX (pc := 83) dX1_machine_83 rfl ?_
      refine g_aload_n hX (pc := 84) dX1_machine_84 0 rfl ?_
      refine g_callI hX (pc := 85) kX10_init (mt_Log_init E l q13 q9) q1296 [0] rfl rfl rfl (Nat.le_of_ble_eq_true rfl) (Nat.le_of_ble_eq_true rfl) (Nat.le_of_ble_eq_true rfl) (by omega) (by omega) dX1_machine_85 (fun v w1 hp => ?_)
      obtain ⟨la14, w15, h16, rfl, rfl⟩ := hp
      refine g_nrm (cs1 := [[(q13, ob 9 [.ref la14, .int 0, .int (-1), .int 0, .int 0, .ref q9])], w15, wm, [(q12, ob 8 [.int 0, .null, .null, .null, .null, .null, .int 0, .int 0, .int 0, .int 0, .int 0])], w10, wr, [(o, ob 0 [.ref n])], [(n, ob 1 [.ref lm, .ref lb, .ref lr, .int (nLo P), .int (nNow P)])], wM, wb, wq, fz]) (st1 := [.ref q13, .int (nI (List.length (nM P))), .ref q12, .ref q12, .ref lm]) rfl rfl ?_
      refine g_new hX (pc := 88) fcX10 q1295 q832 q85 (fs := [.null, .int 0, .int 0, .int 0, .int 0, .null]) (fun j hj => by match j, hj with | 0, _ => rfl | 1, _ => rfl | 2, _ => rfl | 3, _ => rfl | 4, _ => rfl | 5, _ => rfl | j + 6, h => exact absurd h (by omega)) (by omega) (by omega) dX1_machine_88 (fun q17 => ?_)
      refine g_dup hX (pc := 91) dX1_machine_91 rfl ?_
      refine g_aload_n hX (pc := 92) dX1_machine_92 0 rfl ?_
      refine g_callI hX (pc := 93) kX10_init (mt_Log_init E l q17 q9) q1296 [0] rfl rfl rfl (Nat.le_of_ble_eq_true rfl) (Nat.le_of_ble_eq_true rfl) (Nat.le_of_ble_eq_true rfl) (by omega) (by omega) dX1_machine_93 (fun v w1 hp => ?_)
      obtain ⟨la18, w19, h20, rfl, rfl⟩ := hp
      refine g_nrm (cs1 := [[(q17, ob 9 [.ref la18, .int 0, .int (-1), .int 0, .int 0, .ref q9])], w19, [(q13, ob 9 [.ref la14, .int 0, .int (-1), .int 0, .int 0, .ref q9])], w15, wm, [(q12, ob 8 [.int 0, .null, .null, .null, .null, .null, .int 0, .int 0, .int 0, .int 0, .int 0])], w10, wr, [(o, ob 0 [.ref n])], [(n, ob 1 [.ref lm, .ref lb, .ref lr, .int (nLo P), .int (nNow P)])], wM, wb, wq, fz]) (st1 := [.ref q17, .ref q13, .int (nI (List.length (nM P))), .ref q12, .ref q12, .ref lm]) rfl rfl ?_
      refine g_new hX (pc := 96) fcX8 q1292 q890 q83 (fs := [.null, .null, .null, .null, .null, .null, .int 0]) (fun j hj => by match j, hj with | 0, _ => rfl | 1, _ => rfl | 2, _ => rfl | 3, _ => rfl | 4, _ => rfl | 5, _ => rfl | 6, _ => rfl | j + 7, h => exact absurd h (by omega)) (by omega) (by omega) dX1_machine_96 (fun q21 => ?_)
      refine g_dup hX (pc := 99) dX1_machine_99 rfl ?_
      refine g_callI hX (pc := 100) kX8_init (mt_Store_init E l q21) q1293 [0] rfl rfl rfl (Nat.le_of_ble_eq_true rfl) (Nat.le_of_ble_eq_true rfl) (Nat.le_of_ble_eq_true rfl) (by omega) (by omega) dX1_machine_100 (fun v w1 hp => ?_)
      obtain ⟨w22, h23, rfl, rfl⟩ := hp
      refine g_nrm (cs1 := [w22, [(q17, ob 9 [.ref la18, .int 0, .int (-1), .int 0, .int 0, .ref q9])], w19, [(q13, ob 9 [.ref la14, .int 0, .int (-1), .int 0, .int 0, .ref q9])], w15, wm, [(q12, ob 8 [.int 0, .null, .null, .null, .null, .null, .int 0, .int 0, .int 0, .int 0, .int 0])], w10, wr, [(o, ob 0 [.ref n])], [(n, ob 1 [.ref lm, .ref lb, .ref lr, .int (nLo P), .int (nNow P)])], wM, wb, wq, fz]) (st1 := [.ref q21, .ref q17, .ref q13, .int (nI (List.length (nM P))), .ref q12, .ref q12, .ref lm]) rfl rfl ?_
      refine g_callI hX (pc := 103) kX9_init (mt_Machine_init E l q12 (nI (List.length (nM P))) q13 q17 q21) q1297 [6] rfl rfl rfl (Nat.le_of_ble_eq_true rfl) (Nat.le_of_ble_eq_true rfl) (Nat.le_of_ble_eq_true rfl) (by omega) (by omega) dX1_machine_103 (fun v w1 hp => ?_)
      obtain ⟨rn24, rk25, rfl, rfl⟩ := hp
      refine g_nrm (cs1 := [[(q12, ob 8 [.int (nI (List.length (nM P))), .ref rn24, .ref rk25, .ref q13, .ref q17, .ref q21, .int 1, .int 0, .int 0, .int 0, .int 0])], [(rn24, iA (aC E 0) 5 (fun _ => 0))], [(rk25, iA (aC E 0) 5 (fun _ => 0))], w22, [(q17, ob 9 [.ref la18, .int 0, .int (-1), .int 0, .int 0, .ref q9])], w19, [(q13, ob 9 [.ref la14, .int 0, .int (-1), .int 0, .int 0, .ref q9])], w15, wm, w10, wr, [(o, ob 0 [.ref n])], [(n, ob 1 [.ref lm, .ref lb, .ref lr, .int (nLo P), .int (nNow P)])], wM, wb, wq, fz]) (st1 := [.ref q12, .ref lm]) rfl rfl ?_
      refine g_pk [9, 15] rfl ?_
      refine g_cs (cs1 := [w10, fz, [(q12, ob 8 [.int (nI (List.length (nM P))), .ref rn24, .ref rk25, .ref q13, .ref q17, .ref q21, .int 1, .int 0, .int 0, .int 0, .int 0])], [(rn24, iA (aC E 0) 5 (fun _ => 0))], [(rk25, iA (aC E 0) 5 (fun _ => 0))], w22, [(q17, ob 9 [.ref la18, .int 0, .int (-1), .int 0, .int 0, .ref q9])], w19, [(q13, ob 9 [.ref la14, .int 0, .int (-1), .int 0, .int 0, .ref q9])], w15, wm, wr, [(o, ob 0 [.ref n])], [(n, ob 1 [.ref lm, .ref lb, .ref lr, .int (nLo P), .int (nNow P)])], wM, wb, wq]) rfl ?_
      refine g_fl (cs1 := [(w10 ++ (fz)), [(q12, ob 8 [.int (nI (List.length (nM P))), .ref rn24, .ref rk25, .ref q13, .ref q17, .ref q21, .int 1, .int 0, .int 0, .int 0, .int 0])], [(rn24, iA (aC E 0) 5 (fun _ => 0))], [(rk25, iA (aC E 0) 5 (fun _ => 0))], w22, [(q17, ob 9 [.ref la18, .int 0, .int (-1), .int 0, .int 0, .ref q9])], w19, [(q13, ob 9 [.ref la14, .int 0, .int (-1), .int 0, .int 0, .ref q9])], w15, wm, wr, [(o, ob 0 [.ref n])], [(n, ob 1 [.ref lm, .ref lb, .ref lr, .int (nLo P), .int (nNow P)])], wM, wb, wq]) (by simp only [List.flatten_cons, List.flatten_nil, List.cons_append, List.append_assoc, List.nil_append, List.append_nil]) ?_
      have hx27 : Ext E fz (w10 ++ (fz)) := fun q hq => (List.mem_append_right _ hq)
      have hm28 : ∀ q ∈ w10, q ∈ (w10 ++ (fz)) := fun q hq => (List.mem_append_left _ hq)
      generalize (w10 ++ (fz)) = fz26 at hx27 hm28 ⊢
      have h29 := ML.mono hx27 hML
      have h30 := BL.mono hx27 hB
      have hst31 : StIn E fz26 q9 S0 := ⟨_, h11, hm28⟩
      have hE32 : EL E fz26 la14 [] w15 := ⟨h16.al, fun g hg => absurd hg List.not_mem_nil⟩
      have hE33 : EL E fz26 la18 [] w19 := ⟨h20.al, fun g hg => absurd hg List.not_mem_nil⟩
      refine g_cs (cs1 := [fz26, [(q12, ob 8 [.int (nI (List.length (nM P))), .ref rn24, .ref rk25, .ref q13, .ref q17, .ref q21, .int 1, .int 0, .int (nI 0), .int (nI 0), .int 0])], [(rn24, iA (aC E 0) 5 (fun _ => 0))], [(rk25, iA (aC E 0) 5 (fun _ => 0))], w22, [(q17, ob 9 [.ref la18, .int 0, .int (-1), .int (nI 0), .int 0, .ref q9])], w19, [(q13, ob 9 [.ref la14, .int 0, .int (-1), .int (nI 0), .int 0, .ref q9])], w15, wm, wr, [(o, ob 0 [.ref n])], [(n, ob 1 [.ref lm, .ref lb, .ref lr, .int (nLo P), .int (nNow P)])], wM, wb, wq]) (by rw [nI_0]) ?_
      refine g_pk [5, 5] rfl ?_
      refine g_cs (cs1 := [[(q17, ob 9 [.ref la18, .int 0, .int (-1), .int (nI 0), .int 0, .ref q9])], w19, fz26, [(q12, ob 8 [.int (nI (List.length (nM P))), .ref rn24, .ref rk25, .ref q13, .ref q17, .ref q21, .int 1, .int 0, .int (nI 0), .int (nI 0), .int 0])], [(rn24, iA (aC E 0) 5 (fun _ => 0))], [(rk25, iA (aC E 0) 5 (fun _ => 0))], w22, [(q13, ob 9 [.ref la14, .int 0, .int (-1), .int (nI 0), .int 0, .ref q9])], w15, wm, wr, [(o, ob 0 [.ref n])], [(n, ob 1 [.ref lm, .ref lb, .ref lr, .int (nLo P), .int (nNow P)])], wM, wb, wq]) rfl ?_
      refine g_fl (cs1 := [((q17, ob 9 [.ref la18, .int 0, .int (-1), .int (nI 0), .int 0, .ref q9]) :: (w19)), fz26, [(q12, ob 8 [.int (nI (List.length (nM P))), .ref rn24, .ref rk25, .ref q13, .ref q17, .ref q21, .int 1, .int 0, .int (nI 0), .int (nI 0), .int 0])], [(rn24, iA (aC E 0) 5 (fun _ => 0))], [(rk25, iA (aC E 0) 5 (fun _ => 0))], w22, [(q13, ob 9 [.ref la14, .int 0, .int (-1), .int (nI 0), .int 0, .ref q9])], w15, wm, wr, [(o, ob 0 [.ref n])], [(n, ob 1 [.ref lm, .ref lb, .ref lr, .int (nLo P), .int (nNow P)])], wM, wb, wq]) (by simp only [List.flatten_cons, List.flatten_nil, List.cons_append, List.append_assoc, List.nil_append, List.append_nil]) ?_
      have hL34 : IsLog E fz26 q17 pL0 ((q17, ob 9 [.ref la18, .int 0, .int (-1), .int (nI 0), .int 0, .ref q9]) :: (w19)) := ⟨_, _, _, _, hE33, rfl, hst31, rfl⟩
      generalize ((q17, ob 9 [.ref la18, .int 0, .int (-1), .int (nI 0), .int 0, .ref q9]) :: (w19)) = ws35 at hL34 ⊢
      refine g_pk [2, 2, 2, 3, 3, 0, 1] rfl ?_
      refine g_cs (cs1 := [[(q12, ob 8 [.int (nI (List.length (nM P))), .ref rn24, .ref rk25, .ref q13, .ref q17, .ref q21, .int 1, .int 0, .int (nI 0), .int (nI 0), .int 0])], [(rn24, iA (aC E 0) 5 (fun _ => 0))], [(rk25, iA (aC E 0) 5 (fun _ => 0))], [(q13, ob 9 [.ref la14, .int 0, .int (-1), .int (nI 0), .int 0, .ref q9])], w15, ws35, w22, fz26, wm, wr, [(o, ob 0 [.ref n])], [(n, ob 1 [.ref lm, .ref lb, .ref lr, .int (nLo P), .int (nNow P)])], wM, wb, wq]) rfl ?_
      refine g_fl (cs1 := [((q12, ob 8 [.int (nI (List.length (nM P))), .ref rn24, .ref rk25, .ref q13, .ref q17, .ref q21, .int 1, .int 0, .int (nI 0), .int (nI 0), .int 0]) :: (rn24, iA (aC E 0) 5 (fun _ => 0)) :: (rk25, iA (aC E 0) 5 (fun _ => 0)) :: (((q13, ob 9 [.ref la14, .int 0, .int (-1), .int (nI 0), .int 0, .ref q9]) :: w15) ++ (ws35 ++ w22))), fz26, wm, wr, [(o, ob 0 [.ref n])], [(n, ob 1 [.ref lm, .ref lb, .ref lr, .int (nLo P), .int (nNow P)])], wM, wb, wq]) (by simp only [List.flatten_cons, List.flatten_nil, List.cons_append, List.append_assoc, List.nil_append, List.append_nil]) ?_
      have hM36 : IsMach E fz26 q12 (mNew (List.length (nM P))) ((q12, ob 8 [.int (nI (List.length (nM P))), .ref rn24, .ref rk25, .ref q13, .ref q17, .ref q21, .int 1, .int 0, .int (nI 0), .int (nI 0), .int 0]) :: (rn24, iA (aC E 0) 5 (fun _ => 0)) :: (rk25, iA (aC E 0) 5 (fun _ => 0)) :: (((q13, ob 9 [.ref la14, .int 0, .int (-1), .int (nI 0), .int 0, .ref q9]) :: w15) ++ (ws35 ++ w22))) := ⟨_, _, _, _, _, _, _, _, _, _, (fun k hk => ⟨nI_0.symm, nI_0.symm⟩), ⟨_, _, _, _, hE32, rfl, hst31, rfl⟩, hL34, h23, rfl⟩
      generalize ((q12, ob 8 [.int (nI (List.length (nM P))), .ref rn24, .ref rk25, .ref q13, .ref q17, .ref q21, .int 1, .int 0, .int (nI 0), .int (nI 0), .int 0]) :: (rn24, iA (aC E 0) 5 (fun _ => 0)) :: (rk25, iA (aC E 0) 5 (fun _ => 0)) :: (((q13, ob 9 [.ref la14, .int 0, .int (-1), .int (nI 0), .int 0, .ref q9]) :: w15) ++ (ws35 ++ w22))) = wk37 at hM36 ⊢
      refine g_pk [6, 0] rfl ?_
      refine g_cs (cs1 := [wM, wk37, fz26, wm, wr, [(o, ob 0 [.ref n])], [(n, ob 1 [.ref lm, .ref lb, .ref lr, .int (nLo P), .int (nNow P)])], wb, wq]) rfl ?_
      refine g_fl (cs1 := [(wM ++ (wk37)), fz26, wm, wr, [(o, ob 0 [.ref n])], [(n, ob 1 [.ref lm, .ref lb, .ref lr, .int (nLo P), .int (nNow P)])], wb, wq]) (by simp only [List.flatten_cons, List.flatten_nil, List.cons_append, List.append_assoc, List.nil_append, List.append_nil]) ?_
      have hqe : ∃ z, z = (wM ++ (wk37)) := ⟨_, rfl⟩
      obtain ⟨wM38, hwM38⟩ := hqe
      refine g_cs (cs1 := [wM38, fz26, wm, wr, [(o, ob 0 [.ref n])], [(n, ob 1 [.ref lm, .ref lb, .ref lr, .int (nLo P), .int (nNow P)])], wb, wq]) (by rw [hwM38]) ?_
      obtain ⟨fsN, hmN⟩ := IsMach.head hM36
      have hoe : okE E wM38 q12 := Or.inl ⟨8, fsN, by rw [hwM38]; exact List.mem_append_right _ hmN, by omega⟩
      have hol : okL E wM38 mas := fun y hy => (hmok y hy).mono (fun z hz => by rw [hwM38]; exact List.mem_append_left _ hz)
      refine g_callF hX (pc := 106) kfJ2_add_2 (mt_AL_add E l lm mas wm q12 wM38 5 hAm (by omega) (by omega) (hoe) (hol)) q1299 fcJ2 (sp_in 2 rfl hm2) [2, 0] rfl rfl rfl (Nat.le_of_ble_eq_true rfl) (Nat.le_of_ble_eq_true rfl) (Nat.le_of_ble_eq_true rfl) (by omega) (by omega) dX1_machine_106 (fun v w1 hp => ?_)
      obtain ⟨w139, h40, rfl, rfl⟩ := hp
      refine g_nrm (cs1 := [w139, wM38, fz26, wr, [(o, ob 0 [.ref n])], [(n, ob 1 [.ref lm, .ref lb, .ref lr, .int (nLo P), .int (nNow P)])], wb, wq]) (st1 := [.int 1]) rfl rfl ?_
      have hML41 : ML E fz26 lm (nM P ++ [mNew (List.length (nM P))]) w139 wM38 := by rw [hwM38]; exact hmore _ _ _ _ _ hx27 hM36 h40
      refine g_pop hX (pc := 111) dX1_machine_111 rfl ?_
      refine g_aload_n hX (pc := 112) dX1_machine_112 1 rfl ?_
      refine g_get hX (pc := 113) fcX1 4 rfl 0 (by decide) q176 rfl (v := .ref n) rfl dX1_machine_113 ?_
      refine g_getN hX (pc := 116) fcX2 5 rfl 0 (by decide) q156 rfl (v := .ref lm) rfl dX1_machine_116 ?_
      obtain ⟨fs42, hm43⟩ := ML.head hML41
      refine g_callF hX (pc := 119) kfJ2_size (mt_AL_size E l lm (mas ++ [q12]) w139 h40) q738 fcJ2 (sp_in 0 rfl hm43) [0] rfl rfl rfl (Nat.le_of_ble_eq_true rfl) (Nat.le_of_ble_eq_true rfl) (Nat.le_of_ble_eq_true rfl) (by omega) (by omega) dX1_machine_119 (fun v w1 hp => ?_)
      obtain ⟨rfl, rfl⟩ := hp
      refine g_nrm (cs1 := [w139, wM38, fz26, wr, [(o, ob 0 [.ref n])], [(n, ob 1 [.ref lm, .ref lb, .ref lr, .int (nLo P), .int (nNow P)])], wb, wq]) (st1 := [.int (nI (List.length (mas ++ [q12])))]) rfl rfl ?_
      refine g_eqi (nI (List.length (nM P) + 1)) (by rw [List.length_append, List.length_singleton, hml]) ?_
      refine g_iconst hX (pc := 124) (v := 1) dX1_machine_124 (by decide) ?_
      refine g_isub hX (pc := 125) dX1_machine_125 ?_
      refine g_eqi (nI (List.length (nM P))) (nI_pred _) ?_
      refine g_pk [4, 4, 0, 0, 2, 1, 1, 0] rfl ?_
      refine g_cs (cs1 := [[(o, ob 0 [.ref n])], [(n, ob 1 [.ref lm, .ref lb, .ref lr, .int (nLo P), .int (nNow P)])], w139, wM38, wb, wr, wq, fz26]) rfl ?_
      refine g_iret hX (pc := 126) hR ?_ (by omega) (by omega) dX1_machine_126
      exact ⟨_, _, _, hx27, hML41, h30, hRq, rfl, rfl⟩

set_option maxHeartbeats 4000000 in
theorem mt_Q_request (E : EE) (l : Launch) (o : Nat) (n : Nat) (lm : Nat) (lb : Nat) (lr : Nat) (P : PN) (wm : va_W) (wM : va_W) (wb : va_W) (wr : va_W) (wq : va_W) (fz : va_W) (c : Nat) (kd : Nat) (ky : Nat) (a : Nat) (b : Nat) (hML : ML E fz lm (nM P) wm wM) (hB : BL E fz lb (nB P) wb) (hRq : RL E lr (nR P) wr wq) (h1 : (0 < (nM P).length ∧ (nM P).length ≤ 5)) (h40 : ((nR P).length < 40)) (hc : (c < 4)) (hk : (kd < 6)) (hy : (ky < 4)) (ha : (a < 100)) (hb : (b < 100)) (hcan : (canB kd (nI ky) (nI a) (nI b) = true)) : Mt E l yX1_request cX1_request 7 (some .int) 7 4 111 171 [.ref o, .int (nI c), .int (nI kd), .int (nI ky), .int (nI a), .int (nI b)] [[(o, ob 0 [.ref n])], [(n, ob 1 [.ref lm, .ref lb, .ref lr, .int (nLo P), .int (nNow P)])], wm, wM, wb, wr, wq, fz] (fun (v_ : Option Value) (cs_ : List va_W) => ∃ (w1 : va_W) (w2 : va_W), ML E fz lm (nM P) wm wM ∧ BL E fz lb (nB P) wb ∧ RL E lr (nR (oRequest P (rNew c kd ky (nI a) (nI b)))) w1 w2 ∧ v_ = some (.int (nI (List.length (nR P)))) ∧ cs_ = [[(o, ob 0 [.ref n])], [(n, ob 1 [.ref lm, .ref lb, .ref lr, .int (nLo P), .int (nNow P)])], wm, wM, wb, w1, w2, fz]) := by
  obtain ⟨mas, hAm, hml⟩ := ML.al hML
  obtain ⟨ras, hAr, hrl, hrok, hmore⟩ := RL.more hRq
  refine Mt.of (by decide) (Nat.le_of_ble_eq_true rfl) (fun X hX hR hin => ?_)
  refine g_lv1 (lv1 := [(0, .ref o), (1, .int (nI c)), (2, .int (nI kd)), (3, .int (nI ky)), (4, .int (nI a)), (5, .int (nI b))]) rfl ?_
  refine g_iload_n hX (pc := 0) dX1_request_0 1 rfl ?_
  refine g_iconst hX (pc := 1) (v := 0) dX1_request_1 (by decide) ?_
  refine g_iconst hX (pc := 2) (v := 3) dX1_request_2 (by decide) ?_
  refine g_callS hX (pc := 3) kX1_mustBeIn (mt_mustBeIn E l (nI c) 0 3 (nI_pos (by omega)) (show ¬ nI 3 < nI c from nI_nlt (by omega) (by omega))) q1308 [] rfl rfl rfl (Nat.le_of_ble_eq_true rfl) (Nat.le_of_ble_eq_true rfl) (Nat.le_of_ble_eq_true rfl) (by omega) (by omega) dX1_request_3 (fun v w1 hp => ?_)
  obtain ⟨rfl, rfl⟩ := hp
  refine g_nrm (cs1 := [[(o, ob 0 [.ref n])], [(n, ob 1 [.ref lm, .ref lb, .ref lr, .int (nLo P), .int (nNow P)])], wm, wM, wb, wr, wq, fz]) (st1 := []) rfl rfl ?_
  refine g_iload_n hX (pc := 6) dX1_request_6 2 rfl ?_
  refine g_iconst hX (pc := 7) (v := 0) dX1_request_7 (by decide) ?_
  refine g_callS hX (pc := 8) kX11_values (mt_Kind_values E l ) q1319 [] rfl rfl rfl (Nat.le_of_ble_eq_true rfl) (Nat.le_of_ble_eq_true rfl) (Nat.le_of_ble_eq_true rfl) (by omega) (by omega) dX1_request_8 (fun v w1 hp => ?_)
  obtain ⟨q1, rfl, rfl⟩ := hp
  refine g_nrm (cs1 := [[(q1, qA (aC E 6) 6 (fun i => some (aK E i)))], [(o, ob 0 [.ref n])], [(n, ob 1 [.ref lm, .ref lb, .ref lr, .int (nLo P), .int (nNow P)])], wm, wM, wb, wr, wq, fz]) (st1 := [.ref q1, .int 0, .int (nI kd)]) rfl rfl ?_
  refine g_alen hX (pc := 11) (sp_mem (i := 0) rfl) 6 rfl (v := 6) rfl dX1_request_11 ?_
  refine g_iconst hX (pc := 12) (v := 1) dX1_request_12 (by decide) ?_
  refine g_isub hX (pc := 13) dX1_request_13 ?_
  refine g_eqi 5 (by decide) ?_
  refine g_callS hX (pc := 14) kX1_mustBeIn (mt_mustBeIn E l (nI kd) 0 5 (nI_pos (by omega)) (show ¬ nI 5 < nI kd from nI_nlt (by omega) (by omega))) q1308 [] rfl rfl rfl (Nat.le_of_ble_eq_true rfl) (Nat.le_of_ble_eq_true rfl) (Nat.le_of_ble_eq_true rfl) (by omega) (by omega) dX1_request_14 (fun v w1 hp => ?_)
  obtain ⟨rfl, rfl⟩ := hp
  refine g_nrm (cs1 := [[(q1, qA (aC E 6) 6 (fun i => some (aK E i)))], [(o, ob 0 [.ref n])], [(n, ob 1 [.ref lm, .ref lb, .ref lr, .int (nLo P), .int (nNow P)])], wm, wM, wb, wr, wq, fz]) (st1 := []) rfl rfl ?_
  refine g_callS hX (pc := 17) kX11_values (mt_Kind_values E l ) q1319 [] rfl rfl rfl (Nat.le_of_ble_eq_true rfl) (Nat.le_of_ble_eq_true rfl) (Nat.le_of_ble_eq_true rfl) (by omega) (by omega) dX1_request_17 (fun v w1 hp => ?_)
  obtain ⟨q2, rfl, rfl⟩ := hp
  refine g_nrm (cs1 := [[(q2, qA (aC E 6) 6 (fun i => some (aK E i)))], [(q1, qA (aC E 6) 6 (fun i => some (aK E i)))], [(o, ob 0 [.ref n])], [(n, ob 1 [.ref lm, .ref lb, .ref lr, .int (nLo P), .int (nNow P)])], wm, wM, wb, wr, wq, fz]) (st1 := [.ref q2]) rfl rfl ?_
  refine g_iload_n hX (pc := 20) dX1_request_20 2 rfl ?_
  refine g_aald hX (pc := 21) (t0 := 6) rfl (sp_mem (i := 0) rfl) (y := (aK E kd)) (vp_in_nI (by omega) (by omega)) (by rw [nI_clamp (by omega)]) dX1_request_21 ?_
  refine g_astore hX (pc := 22) (lv1 := [(6, .ref (aK E kd)), (0, .ref o), (1, .int (nI c)), (2, .int (nI kd)), (3, .int (nI ky)), (4, .int (nI a)), (5, .int (nI b))]) dX1_request_22 (by decide) rfl ?_
  refine g_aload hX (pc := 24) dX1_request_24 0 rfl ?_
  refine g_iload_n hX (pc := 26) dX1_request_26 4 rfl ?_
  refine g_iload hX (pc := 27) dX1_request_27 5 rfl ?_
  refine g_iload hX (pc := 29) dX1_request_29 6 rfl ?_
  refine g_callS hX (pc := 31) kX1_canBe (mt_Q_canBe E l kd (nI ky) (nI a) (nI b) (hk)) q1330 [] rfl rfl rfl (Nat.le_of_ble_eq_true rfl) (Nat.le_of_ble_eq_true rfl) (Nat.le_of_ble_eq_true rfl) (by omega) (by omega) dX1_request_31 (fun v w1 hp => ?_)
  obtain ⟨rfl, rfl⟩ := hp
  refine g_nrm (cs1 := [[(q2, qA (aC E 6) 6 (fun i => some (aK E i)))], [(q1, qA (aC E 6) 6 (fun i => some (aK E i)))], [(o, ob 0 [.ref n])], [(n, ob 1 [.ref lm, .ref lb, .ref lr, .int (nLo P), .int (nNow P)])], wm, wM, wb, wr, wq, fz]) (st1 := [.int (bI (canB kd (nI ky) (nI a) (nI b)))]) rfl rfl ?_
  refine g_eqi 1 (by rw [hcan]; rfl) ?_
  refine g_callS hX (pc := 34) kX1_must (mt_must E l ) q1311 [] rfl rfl rfl (Nat.le_of_ble_eq_true rfl) (Nat.le_of_ble_eq_true rfl) (Nat.le_of_ble_eq_true rfl) (by omega) (by omega) dX1_request_34 (fun v w1 hp => ?_)
  obtain ⟨rfl, rfl⟩ := hp
  refine g_nrm (cs1 := [[(q2, qA (aC E 6) 6 (fun i => some (aK E i)))], [(q1, qA (aC E 6) 6 (fun i => some (aK E i)))], [(o, ob 0 [.ref n])], [(n, ob 1 [.ref lm, .ref lb, .ref lr, .int (nLo P), .int (nNow P)])], wm, wM, wb, wr, wq, fz]) (st1 := []) rfl rfl ?_
  refine g_aload_n hX (pc := 37) dX1_request_37 1 rfl ?_
  refine g_get hX (pc := 38) fcX1 2 rfl 0 (by decide) q176 rfl (v := .ref n) rfl dX1_request_38 ?_
  refine g_getN hX (pc := 41) fcX2 3 rfl 2 (by decide) q160 rfl (v := .ref lr) rfl dX1_request_41 ?_
  obtain ⟨fs3, hm4⟩ := AL.head hAr
  refine g_callF hX (pc := 44) kfJ2_size (mt_AL_size E l lr ras wr hAr) q738 fcJ2 (sp_in 7 rfl hm4) [7] rfl rfl rfl (Nat.le_of_ble_eq_true rfl) (Nat.le_of_ble_eq_true rfl) (Nat.le_of_ble_eq_true rfl) (by omega) (by omega) dX1_request_44 (fun v w1 hp => ?_)
  obtain ⟨rfl, rfl⟩ := hp
  refine g_nrm (cs1 := [wr, [(q2, qA (aC E 6) 6 (fun i => some (aK E i)))], [(q1, qA (aC E 6) 6 (fun i => some (aK E i)))], [(o, ob 0 [.ref n])], [(n, ob 1 [.ref lm, .ref lb, .ref lr, .int (nLo P), .int (nNow P)])], wm, wM, wb, wq, fz]) (st1 := [.int (nI (List.length ras))]) rfl rfl ?_
  refine g_eqi (nI (List.length (nR P))) (by rw [hrl]) ?_
  refine g_bipush hX (pc := 49) (v := 40) dX1_request_49 (by decide) ?_
  refine g_icmp_ge hX (pc := 51) (tgt := 73) dX1_request_51 rfl (fun c5 => ?_) (fun c5 => ?_)
  · exact absurd c5 (show ¬ nI 40 ≤ nI (List.length (nR P)) from nI_ge h40 (by omega))
  · refine g_aload_n hX (pc := 54) dX1_request_54 1 rfl ?_
    refine g_get hX (pc := 55) fcX1 3 rfl 0 (by decide) q176 rfl (v := .ref n) rfl dX1_request_55 ?_
    refine g_getN hX (pc := 58) fcX2 4 rfl 0 (by decide) q156 rfl (v := .ref lm) rfl dX1_request_58 ?_
    obtain ⟨fs6, hm7⟩ := AL.head hAm
    refine g_callF hX (pc := 61) kfJ2_isEmpty (mt_AL_isEmpty E l lm mas wm hAm (by omega)) q1255 fcJ2 (sp_in 5 rfl hm7) [5] rfl rfl rfl (Nat.le_of_ble_eq_true rfl) (Nat.le_of_ble_eq_true rfl) (Nat.le_of_ble_eq_true rfl) (by omega) (by omega) dX1_request_61 (fun v w1 hp => ?_)
    obtain ⟨rfl, rfl⟩ := hp
    refine g_nrm (cs1 := [wm, wr, [(q2, qA (aC E 6) 6 (fun i => some (aK E i)))], [(q1, qA (aC E 6) 6 (fun i => some (aK E i)))], [(o, ob 0 [.ref n])], [(n, ob 1 [.ref lm, .ref lb, .ref lr, .int (nLo P), .int (nNow P)])], wM, wb, wq, fz]) (st1 := [.int (if List.length mas = 0 then 1 else 0)]) rfl rfl ?_
    refine g_val (v := if List.length mas = 0 then 0 else 1) (pcJ := 74) (st1 := []) (fun hj8 => ?_) ?_
    · refine g_if_ne hX (pc := 66) (tgt := 73) dX1_request_66 rfl (fun c9_ => ?_) (fun c9_ => ?_)
      · have c9 := z10n.mp c9_
        refine g_iconst hX (pc := 73) (v := 0) dX1_request_73 (by decide) ?_
        exact hj8 _ (by rw [if_pos c9])
      · have c9 := z10.mp c9_
        refine g_iconst hX (pc := 69) (v := 1) dX1_request_69 (by decide) ?_
        refine g_goto hX (pc := 70) (tgt := 74) dX1_request_70 rfl ?_
        exact hj8 _ (by rw [if_neg c9])
    refine g_eqi 1 (if_neg (by omega)) ?_
    refine g_callS hX (pc := 74) kX1_checkState (mt_checkState E l ) q1268 [] rfl rfl rfl (Nat.le_of_ble_eq_true rfl) (Nat.le_of_ble_eq_true rfl) (Nat.le_of_ble_eq_true rfl) (by omega) (by omega) dX1_request_74 (fun v w1 hp => ?_)
    obtain ⟨rfl, rfl⟩ := hp
    refine g_nrm (cs1 := [wm, wr, [(q2, qA (aC E 6) 6 (fun i => some (aK E i)))], [(q1, qA (aC E 6) 6 (fun i => some (aK E i)))], [(o, ob 0 [.ref n])], [(n, ob 1 [.ref lm, .ref lb, .ref lr, .int (nLo P), .int (nNow P)])], wM, wb, wq, fz]) (st1 := []) rfl rfl ?_
    refine g_aload_n hX (pc := 77) dX1_request_77 1 rfl ?_
    refine g_get hX (pc := 78) fcX1 4 rfl 0 (by decide) q176 rfl (v := .ref n) rfl dX1_request_78 ?_
    refine g_getN hX (pc := 81) fcX2 5 rfl 2 (by decide) q160 rfl (v := .ref lr) rfl dX1_request_81 ?_
    refine g_new hX (pc := 84) fcX12 q741 q983 q93 (fs := [.int 0, .null, .int 0, .int 0, .int 0, .int 0, .int 0, .int 0, .int 0]) (fun j hj => by match j, hj with | 0, _ => rfl | 1, _ => rfl | 2, _ => rfl | 3, _ => rfl | 4, _ => rfl | 5, _ => rfl | 6, _ => rfl | 7, _ => rfl | 8, _ => rfl | j + 9, h => exact absurd h (by omega)) (by omega) (by omega) dX1_request_84 (fun q10 => ?_)
    refine g_dup hX (pc := 87) dX1_request_87 rfl ?_
    refine g_iload_n hX (pc := 88) dX1_request_88 2 rfl ?_
    refine g_aload hX (pc := 89) dX1_request_89 0 rfl ?_
    refine g_iload_n hX (pc := 91) dX1_request_91 4 rfl ?_
    refine g_iload hX (pc := 92) dX1_request_92 5 rfl ?_
    refine g_iload hX (pc := 94) dX1_request_94 6 rfl ?_
    refine g_callI hX (pc := 96) kX12_init (mt_Request_init E l q10 (nI c) (aK E kd) (nI ky) (nI a) (nI b)) q1336 [0] rfl rfl rfl (Nat.le_of_ble_eq_true rfl) (Nat.le_of_ble_eq_true rfl) (Nat.le_of_ble_eq_true rfl) (by omega) (by omega) dX1_request_96 (fun v w1 hp => ?_)
    obtain ⟨rfl, rfl⟩ := hp
    refine g_nrm (cs1 := [[(q10, ob 10 [.int (nI c), .ref (aK E kd), .int (nI ky), .int (nI a), .int (nI b), .int (-1), .int (-1), .int (-1), .int 0])], wm, wr, [(q2, qA (aC E 6) 6 (fun i => some (aK E i)))], [(q1, qA (aC E 6) 6 (fun i => some (aK E i)))], [(o, ob 0 [.ref n])], [(n, ob 1 [.ref lm, .ref lb, .ref lr, .int (nLo P), .int (nNow P)])], wM, wb, wq, fz]) (st1 := [.ref q10, .ref lr]) rfl rfl ?_
    refine g_pk [9, 0] rfl ?_
    refine g_cs (cs1 := [wq, [(q10, ob 10 [.int (nI c), .ref (aK E kd), .int (nI ky), .int (nI a), .int (nI b), .int (-1), .int (-1), .int (-1), .int 0])], wm, wr, [(q2, qA (aC E 6) 6 (fun i => some (aK E i)))], [(q1, qA (aC E 6) 6 (fun i => some (aK E i)))], [(o, ob 0 [.ref n])], [(n, ob 1 [.ref lm, .ref lb, .ref lr, .int (nLo P), .int (nNow P)])], wM, wb, fz]) rfl ?_
    refine g_fl (cs1 := [(wq ++ ([(q10, ob 10 [.int (nI c), .ref (aK E kd), .int (nI ky), .int (nI a), .int (nI b), .int (-1), .int (-1), .int (-1), .int 0])])), wm, wr, [(q2, qA (aC E 6) 6 (fun i => some (aK E i)))], [(q1, qA (aC E 6) 6 (fun i => some (aK E i)))], [(o, ob 0 [.ref n])], [(n, ob 1 [.ref lm, .ref lb, .ref lr, .int (nLo P), .int (nNow P)])], wM, wb, fz]) (by simp only [List.flatten_cons, List.flatten_nil, List.cons_append, List.append_assoc, List.nil_append, List.append_nil]) ?_
    have hqe : ∃ z, z = (wq ++ ([(q10, ob 10 [.int (nI c), .ref (aK E kd), .int (nI ky), .int (nI a), .int (nI b), .int (-1), .int (-1), .int (-1), .int 0])])) := ⟨_, rfl⟩
    obtain ⟨wq11, hwq11⟩ := hqe
    refine g_cs (cs1 := [wq11, wm, wr, [(q2, qA (aC E 6) 6 (fun i => some (aK E i)))], [(q1, qA (aC E 6) 6 (fun i => some (aK E i)))], [(o, ob 0 [.ref n])], [(n, ob 1 [.ref lm, .ref lb, .ref lr, .int (nLo P), .int (nNow P)])], wM, wb, fz]) (by rw [hwq11]) ?_
    have hoe : okE E wq11 q10 := Or.inl ⟨10, _, by rw [hwq11]; exact List.mem_append_right _ (List.mem_singleton.mpr rfl), by omega⟩
    have hol : okL E wq11 ras := fun y hy => (hrok y hy).mono (fun z hz => by rw [hwq11]; exact List.mem_append_left _ hz)
    refine g_callF hX (pc := 99) kfJ2_add_2 (mt_AL_add E l lr ras wr q10 wq11 40 hAr (by omega) (by omega) (hoe) (hol)) q1299 fcJ2 (sp_in 2 rfl hm4) [2, 0] rfl rfl rfl (Nat.le_of_ble_eq_true rfl) (Nat.le_of_ble_eq_true rfl) (Nat.le_of_ble_eq_true rfl) (by omega) (by omega) dX1_request_99 (fun v w1 hp => ?_)
    obtain ⟨w112, h13, rfl, rfl⟩ := hp
    refine g_nrm (cs1 := [w112, wq11, wm, [(q2, qA (aC E 6) 6 (fun i => some (aK E i)))], [(q1, qA (aC E 6) 6 (fun i => some (aK E i)))], [(o, ob 0 [.ref n])], [(n, ob 1 [.ref lm, .ref lb, .ref lr, .int (nLo P), .int (nNow P)])], wM, wb, fz]) (st1 := [.int 1]) rfl rfl ?_
    have hRL14 : RL E lr (nR P ++ [(rNew c kd ky (nI a) (nI b))]) w112 wq11 := by rw [hwq11]; exact hmore _ _ (rNew c kd ky (nI a) (nI b)) h13
    refine g_pop hX (pc := 104) dX1_request_104 rfl ?_
    refine g_aload_n hX (pc := 105) dX1_request_105 1 rfl ?_
    refine g_get hX (pc := 106) fcX1 5 rfl 0 (by decide) q176 rfl (v := .ref n) rfl dX1_request_106 ?_
    refine g_getN hX (pc := 109) fcX2 6 rfl 2 (by decide) q160 rfl (v := .ref lr) rfl dX1_request_109 ?_
    obtain ⟨fs15, hm16⟩ := RL.head hRL14
    refine g_callF hX (pc := 112) kfJ2_size (mt_AL_size E l lr (ras ++ [q10]) w112 h13) q738 fcJ2 (sp_in 0 rfl hm16) [0] rfl rfl rfl (Nat.le_of_ble_eq_true rfl) (Nat.le_of_ble_eq_true rfl) (Nat.le_of_ble_eq_true rfl) (by omega) (by omega) dX1_request_112 (fun v w1 hp => ?_)
    obtain ⟨rfl, rfl⟩ := hp
    refine g_nrm (cs1 := [w112, wq11, wm, [(q2, qA (aC E 6) 6 (fun i => some (aK E i)))], [(q1, qA (aC E 6) 6 (fun i => some (aK E i)))], [(o, ob 0 [.ref n])], [(n, ob 1 [.ref lm, .ref lb, .ref lr, .int (nLo P), .int (nNow P)])], wM, wb, fz]) (st1 := [.int (nI (List.length (ras ++ [q10])))]) rfl rfl ?_
    refine g_eqi (nI (List.length (nR P) + 1)) (by rw [List.length_append, List.length_singleton, hrl]) ?_
    refine g_iconst hX (pc := 117) (v := 1) dX1_request_117 (by decide) ?_
    refine g_isub hX (pc := 118) dX1_request_118 ?_
    refine g_eqi (nI (List.length (nR P))) (nI_pred _) ?_
    refine g_drop (cs1 := [w112, wq11, wm, [(q1, qA (aC E 6) 6 (fun i => some (aK E i)))], [(o, ob 0 [.ref n])], [(n, ob 1 [.ref lm, .ref lb, .ref lr, .int (nLo P), .int (nNow P)])], wM, wb, fz]) [3] rfl ?_
    refine g_drop (cs1 := [w112, wq11, wm, [(o, ob 0 [.ref n])], [(n, ob 1 [.ref lm, .ref lb, .ref lr, .int (nLo P), .int (nNow P)])], wM, wb, fz]) [3] rfl ?_
    refine g_pk [3, 3, 2, 2, 2, 0, 0, 0] rfl ?_
    refine g_cs (cs1 := [[(o, ob 0 [.ref n])], [(n, ob 1 [.ref lm, .ref lb, .ref lr, .int (nLo P), .int (nNow P)])], wm, wM, wb, w112, wq11, fz]) rfl ?_
    refine g_iret hX (pc := 119) hR ?_ (by omega) (by omega) dX1_request_119
    exact ⟨_, _, hML, hB, hRL14, rfl, rfl⟩
