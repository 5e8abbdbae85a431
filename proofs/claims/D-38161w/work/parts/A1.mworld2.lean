/-! the world: beat, lead, saves, does, settle, stand -/
theorem mtm_ex {ges : List (Nat × PEn)} {L : PL} {n : Nat} (hges : ges.map Prod.snd = lE L) (h1 : lB L ≤ n) (h2 : n ≤ lLast L) : ∃ g : Nat × PEn, (¬ n = lB L → ges[n - lB L - 1]? = some g ∧ lB L < n) ∧ (if n = lB L then lBT L else g.2.1) = lTmA L n := tm_ex hges h1 h2

set_option maxHeartbeats 4000000 in
theorem mt_W_beat (E : EE) (l : Launch) (wd : Nat) (sz : Nat) (ma : Nat) (lb : Nat) (nw : Int32) (r0 : Nat) (r1 : Nat) (r2 : Nat) (r3 : Nat) (mo : Nat) (as : List Nat) (m : Nat) (M : PM) (wk : va_W) (fz : va_W) (B : PB) (wb : va_W) (hM : IsMM E fz sz m M wk) (hB : MBL E fz lb (Prod.fst B) wb) (hm : (as[mN M]? = some m)) (hk : (mN M < sz)) (h5 : (sz ≤ 5)) (hxa : (∀ k, k < 5 → 1 ≤ mNx M k ∧ mNx M k ≤ 1000)) (hl : (lLast (mL M) ≤ 1000)) (hn : (List.length (Prod.fst B) ≤ 30)) : Mt E l yX4_beat cX4_beat 7 none 8 (4 * sz) (68 * sz) 192 [.ref wd, .int (nI (mN M))] [[(wd, ob 3 [.int (nI sz), .ref ma, .ref lb, .int nw, .int (Prod.snd B), .ref r0, .ref r1, .ref r2, .ref r3, .ref mo])], [(ma, qA (aC E 4) sz (idA as))], wk, wb, fz] (fun (v_ : Option Value) (cs_ : List va_W) => ∃ (fz1 : va_W) (w1 : va_W) (w2 : va_W), Ext E fz fz1 ∧ IsMM E fz1 sz m M w1 ∧ MBL E fz1 lb (Prod.fst (toAll (mMore M) (mN M) B sz)) w2 ∧ v_ = none ∧ cs_ = [[(wd, ob 3 [.int (nI sz), .ref ma, .ref lb, .int nw, .int (Prod.snd (toAll (mMore M) (mN M) B sz)), .ref r0, .ref r1, .ref r2, .ref r3, .ref mo])], [(ma, qA (aC E 4) sz (idA as))], w1, w2, fz1]) := by
  have hll : lLast (mL M) = lB (mL M) + (lE (mL M)).length := rfl
  refine Mt.of (by decide) (Nat.le_of_ble_eq_true rfl) (fun X hX hR hin => ?_)
  refine g_lv1 (lv1 := [(0, .ref wd), (1, .int (nI (mN M)))]) rfl ?_
  refine g_aload_n hX (pc := 0) dX4_beat_0 0 rfl ?_
  refine g_get hX (pc := 1) fcX4 0 rfl 1 (by decide) q1741 rfl (v := .ref ma) rfl dX4_beat_1 ?_
  refine g_iload_n hX (pc := 4) dX4_beat_4 1 rfl ?_
  refine g_aald hX (pc := 5) (t0 := 4) rfl (sp_mem (i := 1) rfl) (y := m) (vp_in_nI (by omega) (by omega)) (by rw [nI_clamp (by omega)]; exact hm) dX4_beat_5 ?_
  refine g_astore_n hX (pc := 6) (lv1 := [(2, .ref m), (0, .ref wd), (1, .int (nI (mN M)))]) dX4_beat_6 (by decide) rfl ?_
  refine g_iconst hX (pc := 7) (v := 0) dX4_beat_7 (by decide) ?_
  refine g_eqi (nI 0) (nI_0.symm) ?_
  refine g_istore_n hX (pc := 8) (lv1 := [(3, .int (nI 0)), (2, .ref m), (0, .ref wd), (1, .int (nI (mN M)))]) dX4_beat_8 (by decide) rfl ?_
  have lp1 : ∀ (F1 : Nat) (i : Nat) (fzL : va_W) (wkL : va_W) (wbL : va_W), sz - i < F1 → (i ≤ sz) → Ext E fz fzL → IsMM E fzL sz m M wkL → MBL E fzL lb (Prod.fst (toAll (mMore M) (mN M) B i)) wbL → G E l X [[(wd, ob 3 [.int (nI sz), .ref ma, .ref lb, .int nw, .int (Prod.snd (toAll (mMore M) (mN M) B i)), .ref r0, .ref r1, .ref r2, .ref r3, .ref mo])], [(ma, qA (aC E 4) sz (idA as))], wkL, wbL, fzL] (0 + 4 * i) (0 + 68 * i) 9 [(3, .int (nI i)), (2, .ref m), (0, .ref wd), (1, .int (nI (mN M)))] [] := by
    intro F1
    induction F1 with
    | zero =>
      intro i fzL wkL wbL hF hi hxL hML hBL
      exact absurd hF (Nat.not_lt_zero _)
    | succ F1 ih1 =>
      intro i fzL wkL wbL hF hi hxL hML hBL
      refine g_iload_n hX (pc := 9) dX4_beat_9 0 rfl ?_
      refine g_aload_n hX (pc := 10) dX4_beat_10 2 rfl ?_
      refine g_get hX (pc := 11) fcX4 0 rfl 0 (by decide) q1739 rfl (v := .int (nI sz)) rfl dX4_beat_11 ?_
      refine g_icmp_ge hX (pc := 14) (tgt := 228) dX4_beat_14 rfl (fun c2 => ?_) (fun c2 => ?_)
      · have d1 : i = sz := by
          have := (nI_leI (by omega) (by omega)).mp c2
          omega
        have ht3 : sz = i := d1.symm
        refine g_cs (cs1 := [[(wd, ob 3 [.int (nI sz), .ref ma, .ref lb, .int nw, .int (Prod.snd (toAll (mMore M) (mN M) B sz)), .ref r0, .ref r1, .ref r2, .ref r3, .ref mo])], [(ma, qA (aC E 4) sz (idA as))], wkL, wbL, fzL]) (by rw [ht3]) ?_
        refine g_lv1 (lv1 := [(3, .int (nI sz)), (2, .ref m), (0, .ref wd), (1, .int (nI (mN M)))]) (by rw [ht3]) ?_
        have h4 : MBL E fzL lb (Prod.fst (toAll (mMore M) (mN M) B sz)) wbL := by rw [ht3]; exact hBL
        refine g_vret hX (pc := 228) hR ?_ (by omega) (by omega) dX4_beat_228
        exact ⟨_, _, _, hxL, hML, h4, rfl, rfl⟩
      · have d1 : i < sz := by
          have := mt (nI_leI (by omega) (by omega)).mpr c2
          omega
        have hle := toAll_le (f := mMore M) (me := mN M) hn i
        refine g_iload_n hX (pc := 17) dX4_beat_17 0 rfl ?_
        refine g_iload_n hX (pc := 18) dX4_beat_18 3 rfl ?_
        refine g_icmp_ne hX (pc := 19) (tgt := 25) dX4_beat_19 rfl (fun c5 => ?_) (fun c5 => ?_)
        · have d2 : ¬ i = mN M := mt (nI_eq (by omega) (by omega)).mpr c5
          have hnx : mNext M i = min (mNx M i) (lLast (mL M) + 1) := rfl
          have hxi := hxa i (by omega)
          obtain ⟨rk6, rv7, rs8, rn9, rp10, fn11, fk12, wl13, ws14, hn15, hK16, hV17, hS18, rfl⟩ := hML
          obtain ⟨la19, sp20, ges21, wl13, hE22, hges23, hsp24, rfl⟩ := hK16
          refine g_fl (cs1 := [[(wd, ob 3 [.int (nI sz), .ref ma, .ref lb, .int nw, .int (Prod.snd (toAll (mMore M) (mN M) B i)), .ref r0, .ref r1, .ref r2, .ref r3, .ref mo])], [(ma, qA (aC E 4) sz (idA as))], [(m, ob 4 [.int (mR M), .ref rk6, .ref rv7, .ref rs8, .int (nI (mDn M)), .int (nI (mSu M)), .int (mVt M), .ref rn9, .ref rp10, .int (bI (mLz M))])], [(rn9, iA (aC E 0) 5 fn11)], [(rp10, iA (aC E 0) 5 fk12)], [(rk6, ob 5 [.int (lT (mL M)), .int (lV (mL M)), .int (nI (lB (mL M))), .int (lBT (mL M)), .ref sp20, .ref la19])], wl13, ws14, wbL, fzL]) (by simp only [List.flatten_cons, List.flatten_nil, List.cons_append, List.append_assoc, List.nil_append, List.append_nil]) ?_
          have hl_ges21 : List.length ges21 = List.length (lE (mL M)) := by rw [← hges23, List.length_map]
          refine g_aload_n hX (pc := 25) dX4_beat_25 1 rfl ?_
          refine g_getN hX (pc := 26) fcX5 2 rfl 7 (by decide) q1710 rfl (v := .ref rn9) rfl dX4_beat_26 ?_
          refine g_iload_n hX (pc := 29) dX4_beat_29 0 rfl ?_
          refine g_iald hX (pc := 30) (sp_mem (i := 3) rfl) (v := (nI (mNx M i))) (vp_in_nI (by omega) (by omega)) (by rw [nI_clamp (by omega)]; exact ((hn15 i (by omega)).1 d1).1) dX4_beat_30 ?_
          refine g_aload_n hX (pc := 31) dX4_beat_31 1 rfl ?_
          refine g_getN hX (pc := 32) fcX5 2 rfl 1 (by decide) q1692 rfl (v := .ref rk6) rfl dX4_beat_32 ?_
          refine g_getN hX (pc := 35) fcX6 5 rfl 2 (by decide) q1662 rfl (v := .int (nI (lB (mL M)))) rfl dX4_beat_35 ?_
          refine g_icmp_gt hX (pc := 38) (tgt := 45) dX4_beat_38 rfl (fun c25 => ?_) (fun c25 => ?_)
          · have d3 : lB (mL M) < mNx M i := (nI_ltI (by omega) (by omega)).mp c25
            refine g_iconst hX (pc := 45) (v := 0) dX4_beat_45 (by decide) ?_
            refine g_istore hX (pc := 46) (lv1 := [(4, .int 0), (3, .int (nI i)), (2, .ref m), (0, .ref wd), (1, .int (nI (mN M)))]) dX4_beat_46 (by decide) rfl ?_
            refine g_new hX (pc := 48) fcX15 q1868 q1869 q102 (fs := [.int 0, .int 0, .int 0, .int 0, .int 0, .int 0, .int 0, .int 0, .null, .null]) (fun j hj => by match j, hj with | 0, _ => rfl | 1, _ => rfl | 2, _ => rfl | 3, _ => rfl | 4, _ => rfl | 5, _ => rfl | 6, _ => rfl | 7, _ => rfl | 8, _ => rfl | 9, _ => rfl | j + 10, h => exact absurd h (by omega)) (by omega) (by omega) dX4_beat_48 (fun q26 => ?_)
            refine g_dup hX (pc := 51) dX4_beat_51 rfl ?_
            refine g_iload hX (pc := 52) dX4_beat_52 0 rfl ?_
            refine g_if_eq hX (pc := 54) (tgt := 61) dX4_beat_54 rfl (fun c27 => ?_) (fun c27 => ?_)
            · refine g_iconst hX (pc := 61) (v := 2) dX4_beat_61 (by decide) ?_
              refine g_iload_n hX (pc := 62) dX4_beat_62 4 rfl ?_
              refine g_iload_n hX (pc := 63) dX4_beat_63 1 rfl ?_
              refine g_aload_n hX (pc := 64) dX4_beat_64 2 rfl ?_
              refine g_getN hX (pc := 65) fcX5 3 rfl 1 (by decide) q1692 rfl (v := .ref rk6) rfl dX4_beat_65 ?_
              refine g_getN hX (pc := 68) fcX6 6 rfl 0 (by decide) q1656 rfl (v := .int (lT (mL M))) rfl dX4_beat_68 ?_
              refine g_callI hX (pc := 71) kX15_init (mt_GM_init E l q26 2 (nI (mN M)) (nI i) (lT (mL M))) q1870 [0] rfl rfl rfl (Nat.le_of_ble_eq_true rfl) (Nat.le_of_ble_eq_true rfl) (Nat.le_of_ble_eq_true rfl) (by omega) (by omega) dX4_beat_71 (fun v w1 hp => ?_)
              obtain ⟨la28, w29, h30, rfl, rfl⟩ := hp
              refine g_nrm (cs1 := [[(q26, ob 13 [.int 2, .int (nI (mN M)), .int (nI i), .int (lT (mL M)), .int 0, .int 0, .int 0, .int 0, .ref la28, .null])], w29, [(wd, ob 3 [.int (nI sz), .ref ma, .ref lb, .int nw, .int (Prod.snd (toAll (mMore M) (mN M) B i)), .ref r0, .ref r1, .ref r2, .ref r3, .ref mo])], [(ma, qA (aC E 4) sz (idA as))], [(m, ob 4 [.int (mR M), .ref rk6, .ref rv7, .ref rs8, .int (nI (mDn M)), .int (nI (mSu M)), .int (mVt M), .ref rn9, .ref rp10, .int (bI (mLz M))])], [(rn9, iA (aC E 0) 5 fn11)], [(rp10, iA (aC E 0) 5 fk12)], [(rk6, ob 5 [.int (lT (mL M)), .int (lV (mL M)), .int (nI (lB (mL M))), .int (lBT (mL M)), .ref sp20, .ref la19])], wl13, ws14, wbL, fzL]) (st1 := [.ref q26]) rfl rfl ?_
              refine g_astore hX (pc := 74) (lv1 := [(5, .ref q26), (4, .int 0), (3, .int (nI i)), (2, .ref m), (0, .ref wd), (1, .int (nI (mN M)))]) dX4_beat_74 (by decide) rfl ?_
              refine g_aload hX (pc := 76) dX4_beat_76 0 rfl ?_
              refine g_iload hX (pc := 78) dX4_beat_78 1 rfl ?_
              refine g_if_eq hX (pc := 80) (tgt := 93) dX4_beat_80 rfl (fun c31 => ?_) (fun c31 => ?_)
              · refine g_aload_n hX (pc := 93) dX4_beat_93 3 rfl ?_
                refine g_getN hX (pc := 94) fcX5 4 rfl 7 (by decide) q1710 rfl (v := .ref rn9) rfl dX4_beat_94 ?_
                refine g_iload_n hX (pc := 97) dX4_beat_97 2 rfl ?_
                refine g_iald hX (pc := 98) (sp_mem (i := 5) rfl) (v := (nI (mNx M i))) (vp_in_nI (by omega) (by omega)) (by rw [nI_clamp (by omega)]; exact ((hn15 i (by omega)).1 d1).1) dX4_beat_98 ?_
                refine g_iconst hX (pc := 99) (v := 1) dX4_beat_99 (by decide) ?_
                refine g_isub hX (pc := 100) dX4_beat_100 ?_
                refine g_eqi (nI (mNx M i - 1)) (pk_sub (b := 1) (by omega)) ?_
                refine g_aload_n hX (pc := 101) dX4_beat_101 3 rfl ?_
                refine g_getN hX (pc := 102) fcX5 4 rfl 1 (by decide) q1692 rfl (v := .ref rk6) rfl dX4_beat_102 ?_
                refine g_callV hX (pc := 105) kX6_last (mt_Kp_last E l rk6 (lT (mL M)) (lV (mL M)) (lB (mL M)) (lBT (mL M)) sp20 la19 fzL ges21 wl13 hE22) q1919 fcX6 (sp_mem (i := 7) rfl) [7, 7] rfl rfl rfl (Nat.le_of_ble_eq_true rfl) (Nat.le_of_ble_eq_true rfl) (Nat.le_of_ble_eq_true rfl) (by omega) (by omega) dX4_beat_105 (fun v w1 hp => ?_)
                obtain ⟨rfl, rfl⟩ := hp
                refine g_nrm (cs1 := [[(rk6, ob 5 [.int (lT (mL M)), .int (lV (mL M)), .int (nI (lB (mL M))), .int (lBT (mL M)), .ref sp20, .ref la19])], wl13, [(q26, ob 13 [.int 2, .int (nI (mN M)), .int (nI i), .int (lT (mL M)), .int 0, .int 0, .int 0, .int 0, .ref la28, .null])], w29, [(wd, ob 3 [.int (nI sz), .ref ma, .ref lb, .int nw, .int (Prod.snd (toAll (mMore M) (mN M) B i)), .ref r0, .ref r1, .ref r2, .ref r3, .ref mo])], [(ma, qA (aC E 4) sz (idA as))], [(m, ob 4 [.int (mR M), .ref rk6, .ref rv7, .ref rs8, .int (nI (mDn M)), .int (nI (mSu M)), .int (mVt M), .ref rn9, .ref rp10, .int (bI (mLz M))])], [(rn9, iA (aC E 0) 5 fn11)], [(rp10, iA (aC E 0) 5 fk12)], ws14, wbL, fzL]) (st1 := [.int (nI ((lB (mL M)) + List.length ges21)), .int (nI (mNx M i - 1)), .ref q26]) rfl rfl ?_
                refine g_eqi (nI (lLast (mL M))) (by rw [hl_ges21]) ?_
                refine g_mmin hX (pc := 108) q1963 (Nat.le_of_ble_eq_true rfl) (Nat.le_of_ble_eq_true rfl) (by omega) (by omega) q_m1min q_m2 q_m3min dX4_beat_108 ?_
                refine g_eqi (nI (mNext M i - 1)) (by rw [al_min (by omega) (by omega)]; congr 1; omega) ?_
                refine g_putN hX (pc := 111) fcX15 2 (fs1 := [.int 2, .int (nI (mN M)), .int (nI i), .int (lT (mL M)), .int (nI (mNext M i - 1)), .int 0, .int 0, .int 0, .ref la28, .null]) (cs1 := [[(rk6, ob 5 [.int (lT (mL M)), .int (lV (mL M)), .int (nI (lB (mL M))), .int (lBT (mL M)), .ref sp20, .ref la19])], wl13, [(q26, ob 13 [.int 2, .int (nI (mN M)), .int (nI i), .int (lT (mL M)), .int (nI (mNext M i - 1)), .int 0, .int 0, .int 0, .ref la28, .null])], w29, [(wd, ob 3 [.int (nI sz), .ref ma, .ref lb, .int nw, .int (Prod.snd (toAll (mMore M) (mN M) B i)), .ref r0, .ref r1, .ref r2, .ref r3, .ref mo])], [(ma, qA (aC E 4) sz (idA as))], [(m, ob 4 [.int (mR M), .ref rk6, .ref rv7, .ref rs8, .int (nI (mDn M)), .int (nI (mSu M)), .int (mVt M), .ref rn9, .ref rp10, .int (bI (mLz M))])], [(rn9, iA (aC E 0) 5 fn11)], [(rp10, iA (aC E 0) 5 fk12)], ws14, wbL, fzL]) rfl 4 (by decide) q1888 rfl rfl rfl rfl (Nat.le_of_ble_eq_true rfl) rfl rfl dX4_beat_111 ?_
                refine g_aload hX (pc := 114) dX4_beat_114 0 rfl ?_
                refine g_aload_n hX (pc := 116) dX4_beat_116 3 rfl ?_
                refine g_getN hX (pc := 117) fcX5 6 rfl 1 (by decide) q1692 rfl (v := .ref rk6) rfl dX4_beat_117 ?_
                refine g_aload hX (pc := 120) dX4_beat_120 0 rfl ?_
                refine g_getN hX (pc := 122) fcX15 2 rfl 4 (by decide) q1888 rfl (v := .int (nI (mNext M i - 1))) rfl dX4_beat_122 ?_
                obtain ⟨g32, hg33, ht34⟩ := mtm_ex (L := (mL M)) (n := (mNext M i - 1)) hges23 (by omega) (by omega)
                refine g_callV hX (pc := 125) kX6_termOf (mt_Kp_termOf E l rk6 (lT (mL M)) (lV (mL M)) (lB (mL M)) (lBT (mL M)) sp20 la19 fzL ges21 wl13 (mNext M i - 1) g32 hE22 (hg33) (by omega) (by omega)) q1924 fcX6 (sp_mem (i := 0) rfl) [0, 0, 9] rfl rfl rfl (Nat.le_of_ble_eq_true rfl) (Nat.le_of_ble_eq_true rfl) (Nat.le_of_ble_eq_true rfl) (by omega) (by omega) dX4_beat_125 (fun v w1 hp => ?_)
                obtain ⟨rfl, rfl⟩ := hp
                refine g_nrm (cs1 := [[(rk6, ob 5 [.int (lT (mL M)), .int (lV (mL M)), .int (nI (lB (mL M))), .int (lBT (mL M)), .ref sp20, .ref la19])], wl13, fzL, [(q26, ob 13 [.int 2, .int (nI (mN M)), .int (nI i), .int (lT (mL M)), .int (nI (mNext M i - 1)), .int 0, .int 0, .int 0, .ref la28, .null])], w29, [(wd, ob 3 [.int (nI sz), .ref ma, .ref lb, .int nw, .int (Prod.snd (toAll (mMore M) (mN M) B i)), .ref r0, .ref r1, .ref r2, .ref r3, .ref mo])], [(ma, qA (aC E 4) sz (idA as))], [(m, ob 4 [.int (mR M), .ref rk6, .ref rv7, .ref rs8, .int (nI (mDn M)), .int (nI (mSu M)), .int (mVt M), .ref rn9, .ref rp10, .int (bI (mLz M))])], [(rn9, iA (aC E 0) 5 fn11)], [(rp10, iA (aC E 0) 5 fk12)], ws14, wbL]) (st1 := [.int (if (mNext M i - 1) = (lB (mL M)) then (lBT (mL M)) else g32.2.1), .ref q26]) rfl rfl ?_
                refine g_eqi (lTmA (mL M) (mNext M i - 1)) (ht34) ?_
                refine g_putN hX (pc := 128) fcX15 3 (fs1 := [.int 2, .int (nI (mN M)), .int (nI i), .int (lT (mL M)), .int (nI (mNext M i - 1)), .int (lTmA (mL M) (mNext M i - 1)), .int 0, .int 0, .ref la28, .null]) (cs1 := [[(rk6, ob 5 [.int (lT (mL M)), .int (lV (mL M)), .int (nI (lB (mL M))), .int (lBT (mL M)), .ref sp20, .ref la19])], wl13, fzL, [(q26, ob 13 [.int 2, .int (nI (mN M)), .int (nI i), .int (lT (mL M)), .int (nI (mNext M i - 1)), .int (lTmA (mL M) (mNext M i - 1)), .int 0, .int 0, .ref la28, .null])], w29, [(wd, ob 3 [.int (nI sz), .ref ma, .ref lb, .int nw, .int (Prod.snd (toAll (mMore M) (mN M) B i)), .ref r0, .ref r1, .ref r2, .ref r3, .ref mo])], [(ma, qA (aC E 4) sz (idA as))], [(m, ob 4 [.int (mR M), .ref rk6, .ref rv7, .ref rs8, .int (nI (mDn M)), .int (nI (mSu M)), .int (mVt M), .ref rn9, .ref rp10, .int (bI (mLz M))])], [(rn9, iA (aC E 0) 5 fn11)], [(rp10, iA (aC E 0) 5 fk12)], ws14, wbL]) rfl 5 (by decide) q1890 rfl rfl rfl rfl (Nat.le_of_ble_eq_true rfl) rfl rfl dX4_beat_128 ?_
                refine g_iload hX (pc := 131) dX4_beat_131 1 rfl ?_
                refine g_if_eq hX (pc := 133) (tgt := 151) dX4_beat_133 rfl (fun c35 => ?_) (fun c35 => ?_)
                · refine g_aload hX (pc := 151) dX4_beat_151 0 rfl ?_
                  refine g_aload_n hX (pc := 153) dX4_beat_153 3 rfl ?_
                  refine g_getN hX (pc := 154) fcX5 7 rfl 5 (by decide) q1704 rfl (v := .int (nI (mSu M))) rfl dX4_beat_154 ?_
                  refine g_putN hX (pc := 157) fcX15 3 (fs1 := [.int 2, .int (nI (mN M)), .int (nI i), .int (lT (mL M)), .int (nI (mNext M i - 1)), .int (lTmA (mL M) (mNext M i - 1)), .int 0, .int (nI (mSu M)), .ref la28, .null]) (cs1 := [[(rk6, ob 5 [.int (lT (mL M)), .int (lV (mL M)), .int (nI (lB (mL M))), .int (lBT (mL M)), .ref sp20, .ref la19])], wl13, fzL, [(q26, ob 13 [.int 2, .int (nI (mN M)), .int (nI i), .int (lT (mL M)), .int (nI (mNext M i - 1)), .int (lTmA (mL M) (mNext M i - 1)), .int 0, .int (nI (mSu M)), .ref la28, .null])], w29, [(wd, ob 3 [.int (nI sz), .ref ma, .ref lb, .int nw, .int (Prod.snd (toAll (mMore M) (mN M) B i)), .ref r0, .ref r1, .ref r2, .ref r3, .ref mo])], [(ma, qA (aC E 4) sz (idA as))], [(m, ob 4 [.int (mR M), .ref rk6, .ref rv7, .ref rs8, .int (nI (mDn M)), .int (nI (mSu M)), .int (mVt M), .ref rn9, .ref rp10, .int (bI (mLz M))])], [(rn9, iA (aC E 0) 5 fn11)], [(rp10, iA (aC E 0) 5 fk12)], ws14, wbL]) rfl 7 (by decide) q1893 rfl rfl rfl rfl (Nat.le_of_ble_eq_true rfl) rfl rfl dX4_beat_157 ?_
                  refine g_aload_n hX (pc := 160) dX4_beat_160 3 rfl ?_
                  refine g_getN hX (pc := 161) fcX5 7 rfl 7 (by decide) q1710 rfl (v := .ref rn9) rfl dX4_beat_161 ?_
                  refine g_iload_n hX (pc := 164) dX4_beat_164 2 rfl ?_
                  refine g_iald hX (pc := 165) (sp_mem (i := 8) rfl) (v := (nI (mNx M i))) (vp_in_nI (by omega) (by omega)) (by rw [nI_clamp (by omega)]; exact ((hn15 i (by omega)).1 d1).1) dX4_beat_165 ?_
                  refine g_eqi (nI (mNx M i + 0)) (rfl) ?_
                  refine g_istore hX (pc := 166) (lv1 := [(6, .int (nI (mNx M i + 0))), (5, .ref q26), (4, .int 0), (3, .int (nI i)), (2, .ref m), (0, .ref wd), (1, .int (nI (mN M)))]) dX4_beat_166 (by decide) rfl ?_
                  have lp36 : ∀ (F2 : Nat) (c : Nat) (w1 : va_W), 2 - c < F2 → (c ≤ 2 ∧ c ≤ lLast (mL M) + 1 - mNext M i) → (c = 0 ∨ mNext M i = mNx M i) → ALc E la28 (List.map Prod.fst (List.take c (List.drop (mNext M i - lB (mL M) - 1) ges21))) (fl_cap c) w1 → G E l X [[(rk6, ob 5 [.int (lT (mL M)), .int (lV (mL M)), .int (nI (lB (mL M))), .int (lBT (mL M)), .ref sp20, .ref la19])], wl13, fzL, [(q26, ob 13 [.int 2, .int (nI (mN M)), .int (nI i), .int (lT (mL M)), .int (nI (mNext M i - 1)), .int (lTmA (mL M) (mNext M i - 1)), .int 0, .int (nI (mSu M)), .ref la28, .null])], w1, [(wd, ob 3 [.int (nI sz), .ref ma, .ref lb, .int nw, .int (Prod.snd (toAll (mMore M) (mN M) B i)), .ref r0, .ref r1, .ref r2, .ref r3, .ref mo])], [(ma, qA (aC E 4) sz (idA as))], [(m, ob 4 [.int (mR M), .ref rk6, .ref rv7, .ref rs8, .int (nI (mDn M)), .int (nI (mSu M)), .int (mVt M), .ref rn9, .ref rp10, .int (bI (mLz M))])], [(rn9, iA (aC E 0) 5 fn11)], [(rp10, iA (aC E 0) 5 fk12)], ws14, wbL] (0 + 4 * i + 1 + 1 + 0 + 0 + fl_mc c) (0 + 68 * i + 10 + 3 + 0 + 0 + fl_ms c) 168 [(6, .int (nI (mNx M i + c))), (5, .ref q26), (4, .int 0), (3, .int (nI i)), (2, .ref m), (0, .ref wd), (1, .int (nI (mN M)))] [] := by
                    intro F2
                    induction F2 with
                    | zero =>
                      intro c w1 hF hc hcn hw1
                      exact absurd hF (Nat.not_lt_zero _)
                    | succ F2 ih2 =>
                      intro c w1 hF hc hcn hw1
                      have hglc : ((List.take c (List.drop (mNext M i - lB (mL M) - 1) ges21))).length = min c (lLast (mL M) + 1 - mNext M i) := by rw [List.length_take, List.length_drop]; omega
                      have hglm : (List.map Prod.fst (List.take c (List.drop (mNext M i - lB (mL M) - 1) ges21))).length = c := by rw [List.length_map]; omega
                      have hfm := fl_mono (a := c) (b := 2) (by omega)
                      have hf2 : fl_mc 2 = 1 ∧ fl_ms 2 = 10 := by decide
                      refine g_iload hX (pc := 168) dX4_beat_168 0 rfl ?_
                      refine g_aload_n hX (pc := 170) dX4_beat_170 4 rfl ?_
                      refine g_getN hX (pc := 171) fcX5 7 rfl 1 (by decide) q1692 rfl (v := .ref rk6) rfl dX4_beat_171 ?_
                      refine g_callV hX (pc := 174) kX6_last (mt_Kp_last E l rk6 (lT (mL M)) (lV (mL M)) (lB (mL M)) (lBT (mL M)) sp20 la19 fzL ges21 wl13 hE22) q1919 fcX6 (sp_mem (i := 0) rfl) [0, 0] rfl rfl rfl (Nat.le_of_ble_eq_true rfl) (Nat.le_of_ble_eq_true rfl) (Nat.le_of_ble_eq_true rfl) (by omega) (by omega) dX4_beat_174 (fun v w1 hp => ?_)
                      obtain ⟨rfl, rfl⟩ := hp
                      refine g_nrm (cs1 := [[(rk6, ob 5 [.int (lT (mL M)), .int (lV (mL M)), .int (nI (lB (mL M))), .int (lBT (mL M)), .ref sp20, .ref la19])], wl13, fzL, [(q26, ob 13 [.int 2, .int (nI (mN M)), .int (nI i), .int (lT (mL M)), .int (nI (mNext M i - 1)), .int (lTmA (mL M) (mNext M i - 1)), .int 0, .int (nI (mSu M)), .ref la28, .null])], w1, [(wd, ob 3 [.int (nI sz), .ref ma, .ref lb, .int nw, .int (Prod.snd (toAll (mMore M) (mN M) B i)), .ref r0, .ref r1, .ref r2, .ref r3, .ref mo])], [(ma, qA (aC E 4) sz (idA as))], [(m, ob 4 [.int (mR M), .ref rk6, .ref rv7, .ref rs8, .int (nI (mDn M)), .int (nI (mSu M)), .int (mVt M), .ref rn9, .ref rp10, .int (bI (mLz M))])], [(rn9, iA (aC E 0) 5 fn11)], [(rp10, iA (aC E 0) 5 fk12)], ws14, wbL]) (st1 := [.int (nI ((lB (mL M)) + List.length ges21)), .int (nI (mNx M i + c))]) rfl rfl ?_
                      refine g_eqi (nI (lLast (mL M))) (by rw [hl_ges21]) ?_
                      refine g_icmp_gt hX (pc := 177) (tgt := 216) dX4_beat_177 rfl (fun c37 => ?_) (fun c37 => ?_)
                      · have d4 : lLast (mL M) < mNx M i + c := by
                          rw [nI_ltI (by omega) (by omega)] at c37
                          exact c37
                        have hc2 : (List.take c (List.drop (mNext M i - lB (mL M) - 1) ges21)) = List.take 2 (List.drop (mNext M i - lB (mL M) - 1) ges21) := by
                          rw [List.take_of_length_le (by rw [List.length_drop]; omega), List.take_of_length_le (by rw [List.length_drop]; omega)]
                        refine g_aload_n hX (pc := 216) dX4_beat_216 5 rfl ?_
                        refine g_aload hX (pc := 217) dX4_beat_217 1 rfl ?_
                        refine g_pk [7, 7, 7, 0, 0, 5] rfl ?_
                        refine g_cs (cs1 := [[(m, ob 4 [.int (mR M), .ref rk6, .ref rv7, .ref rs8, .int (nI (mDn M)), .int (nI (mSu M)), .int (mVt M), .ref rn9, .ref rp10, .int (bI (mLz M))])], [(rn9, iA (aC E 0) 5 fn11)], [(rp10, iA (aC E 0) 5 fk12)], [(rk6, ob 5 [.int (lT (mL M)), .int (lV (mL M)), .int (nI (lB (mL M))), .int (lBT (mL M)), .ref sp20, .ref la19])], wl13, ws14, fzL, [(q26, ob 13 [.int 2, .int (nI (mN M)), .int (nI i), .int (lT (mL M)), .int (nI (mNext M i - 1)), .int (lTmA (mL M) (mNext M i - 1)), .int 0, .int (nI (mSu M)), .ref la28, .null])], w1, [(wd, ob 3 [.int (nI sz), .ref ma, .ref lb, .int nw, .int (Prod.snd (toAll (mMore M) (mN M) B i)), .ref r0, .ref r1, .ref r2, .ref r3, .ref mo])], [(ma, qA (aC E 4) sz (idA as))], wbL]) rfl ?_
                        refine g_fl (cs1 := [((m, ob 4 [.int (mR M), .ref rk6, .ref rv7, .ref rs8, .int (nI (mDn M)), .int (nI (mSu M)), .int (mVt M), .ref rn9, .ref rp10, .int (bI (mLz M))]) :: (rn9, iA (aC E 0) 5 fn11) :: (rp10, iA (aC E 0) 5 fk12) :: (((rk6, ob 5 [.int (lT (mL M)), .int (lV (mL M)), .int (nI (lB (mL M))), .int (lBT (mL M)), .ref sp20, .ref la19]) :: wl13) ++ ws14)), fzL, [(q26, ob 13 [.int 2, .int (nI (mN M)), .int (nI i), .int (lT (mL M)), .int (nI (mNext M i - 1)), .int (lTmA (mL M) (mNext M i - 1)), .int 0, .int (nI (mSu M)), .ref la28, .null])], w1, [(wd, ob 3 [.int (nI sz), .ref ma, .ref lb, .int nw, .int (Prod.snd (toAll (mMore M) (mN M) B i)), .ref r0, .ref r1, .ref r2, .ref r3, .ref mo])], [(ma, qA (aC E 4) sz (idA as))], wbL]) (by simp only [List.flatten_cons, List.flatten_nil, List.cons_append, List.append_assoc, List.nil_append, List.append_nil]) ?_
                        have hM38 : IsMM E fzL sz m M ((m, ob 4 [.int (mR M), .ref rk6, .ref rv7, .ref rs8, .int (nI (mDn M)), .int (nI (mSu M)), .int (mVt M), .ref rn9, .ref rp10, .int (bI (mLz M))]) :: (rn9, iA (aC E 0) 5 fn11) :: (rp10, iA (aC E 0) 5 fk12) :: (((rk6, ob 5 [.int (lT (mL M)), .int (lV (mL M)), .int (nI (lB (mL M))), .int (lBT (mL M)), .ref sp20, .ref la19]) :: wl13) ++ ws14)) := ⟨_, _, _, _, _, _, _, _, _, hn15, ⟨_, _, _, _, hE22, hges23, hsp24, rfl⟩, hV17, hS18, rfl⟩
                        generalize ((m, ob 4 [.int (mR M), .ref rk6, .ref rv7, .ref rs8, .int (nI (mDn M)), .int (nI (mSu M)), .int (mVt M), .ref rn9, .ref rp10, .int (bI (mLz M))]) :: (rn9, iA (aC E 0) 5 fn11) :: (rp10, iA (aC E 0) 5 fk12) :: (((rk6, ob 5 [.int (lT (mL M)), .int (lV (mL M)), .int (nI (lB (mL M))), .int (lBT (mL M)), .ref sp20, .ref la19]) :: wl13) ++ ws14)) = wk39 at hM38 ⊢
                        refine g_pk [2, 2, 1] rfl ?_
                        refine g_cs (cs1 := [[(q26, ob 13 [.int 2, .int (nI (mN M)), .int (nI i), .int (lT (mL M)), .int (nI (mNext M i - 1)), .int (lTmA (mL M) (mNext M i - 1)), .int 0, .int (nI (mSu M)), .ref la28, .null])], w1, fzL, wk39, [(wd, ob 3 [.int (nI sz), .ref ma, .ref lb, .int nw, .int (Prod.snd (toAll (mMore M) (mN M) B i)), .ref r0, .ref r1, .ref r2, .ref r3, .ref mo])], [(ma, qA (aC E 4) sz (idA as))], wbL]) rfl ?_
                        refine g_fl (cs1 := [((q26, ob 13 [.int 2, .int (nI (mN M)), .int (nI i), .int (lT (mL M)), .int (nI (mNext M i - 1)), .int (lTmA (mL M) (mNext M i - 1)), .int 0, .int (nI (mSu M)), .ref la28, .null]) :: (w1 ++ (fzL))), wk39, [(wd, ob 3 [.int (nI sz), .ref ma, .ref lb, .int nw, .int (Prod.snd (toAll (mMore M) (mN M) B i)), .ref r0, .ref r1, .ref r2, .ref r3, .ref mo])], [(ma, qA (aC E 4) sz (idA as))], wbL]) (by simp only [List.flatten_cons, List.flatten_nil, List.cons_append, List.append_assoc, List.nil_append, List.append_nil]) ?_
                        have hx41 : Ext E fzL ((q26, ob 13 [.int 2, .int (nI (mN M)), .int (nI i), .int (lT (mL M)), .int (nI (mNext M i - 1)), .int (lTmA (mL M) (mNext M i - 1)), .int 0, .int (nI (mSu M)), .ref la28, .null]) :: (w1 ++ (fzL))) := fun q hq => (List.mem_cons_of_mem _ (List.mem_append_right _ hq))
                        have hm42 : (q26, ob 13 [.int 2, .int (nI (mN M)), .int (nI i), .int (lT (mL M)), .int (nI (mNext M i - 1)), .int (lTmA (mL M) (mNext M i - 1)), .int 0, .int (nI (mSu M)), .ref la28, .null]) ∈ ((q26, ob 13 [.int 2, .int (nI (mN M)), .int (nI i), .int (lT (mL M)), .int (nI (mNext M i - 1)), .int (lTmA (mL M) (mNext M i - 1)), .int 0, .int (nI (mSu M)), .ref la28, .null]) :: (w1 ++ (fzL))) := (List.mem_cons_self)
                        have hm43 : ∀ q ∈ w1, q ∈ ((q26, ob 13 [.int 2, .int (nI (mN M)), .int (nI i), .int (lT (mL M)), .int (nI (mNext M i - 1)), .int (lTmA (mL M) (mNext M i - 1)), .int 0, .int (nI (mSu M)), .ref la28, .null]) :: (w1 ++ (fzL))) := fun q hq => (List.mem_cons_of_mem _ (List.mem_append_left _ hq))
                        generalize ((q26, ob 13 [.int 2, .int (nI (mN M)), .int (nI i), .int (lT (mL M)), .int (nI (mNext M i - 1)), .int (lTmA (mL M) (mNext M i - 1)), .int 0, .int (nI (mSu M)), .ref la28, .null]) :: (w1 ++ (fzL))) = fz40 at hx41 hm42 hm43 ⊢
                        have h44 := MBL.mono hx41 hBL
                        have h45 := MTIn.mono hx41 hsp24
                        have h46 := KpIn.mono hx41 hV17
                        have h47 := IsMM.mono hx41 hM38
                        have hmm : GMIn E fz40 q26 (mMore M i) := by
                          rw [show mMore M i = ((2, mN M, i), (lT (mL M), mNext M i - 1, lTmA (mL M) (mNext M i - 1)), (false, mSu M, ((lE (mL M)).drop (mNext M i - lB (mL M) - 1)).take 2, lS (mL M))) from if_neg (by omega)]
                          refine ⟨_, _, (List.take c (List.drop (mNext M i - lB (mL M) - 1) ges21)), _, hm42, hm43, ⟨hw1.al, fun g hg => (fun g hg => hx41 _ (hE22.2 g hg)) g (List.mem_of_mem_drop (List.mem_of_mem_take hg))⟩, ?_, fun z => absurd z (by show ¬ (2 : Nat) = 4; decide)⟩
                          rw [hc2, List.map_take, List.map_drop, hges23]
                        refine g_callV hX (pc := 219) kX4_put (mt_W_put E l wd sz ma lb nw r0 r1 r2 r3 mo (toAll (mMore M) (mN M) B i) wbL fz40 q26 (mMore M i) h44 hmm (hle)) q1934 fcX4 (sp_mem (i := 2) rfl) [2, 3, 0] rfl rfl rfl (Nat.le_of_ble_eq_true rfl) (Nat.le_of_ble_eq_true rfl) (Nat.le_of_ble_eq_true rfl) (by omega) (by omega) dX4_beat_219 (fun v w1 hp => ?_)
                        obtain ⟨w148, h49, rfl, rfl⟩ := hp
                        refine g_nrm (cs1 := [[(wd, ob 3 [.int (nI sz), .ref ma, .ref lb, .int nw, .int (Prod.snd (bSend (toAll (mMore M) (mN M) B i) (mMore M i))), .ref r0, .ref r1, .ref r2, .ref r3, .ref mo])], w148, fz40, wk39, [(ma, qA (aC E 4) sz (idA as))]]) (st1 := []) rfl rfl ?_
                        have ht50 : toAll (mMore M) (mN M) B (i + 1) = bSend (toAll (mMore M) (mN M) B i) (mMore M i) := toAll_n d2
                        refine g_cs (cs1 := [[(wd, ob 3 [.int (nI sz), .ref ma, .ref lb, .int nw, .int (Prod.snd (toAll (mMore M) (mN M) B (i + 1))), .ref r0, .ref r1, .ref r2, .ref r3, .ref mo])], w148, fz40, wk39, [(ma, qA (aC E 4) sz (idA as))]]) (by rw [ht50]) ?_
                        have h51 : MBL E fz40 lb (Prod.fst (toAll (mMore M) (mN M) B (i + 1))) w148 := by rw [ht50]; exact h49
                        refine g_iinc hX (pc := 222) (v := nI (i + 1)) (lv1 := [(3, .int (nI (i + 1))), (6, .int (nI (mNx M i + c))), (5, .ref q26), (4, .int 0), (2, .ref m), (0, .ref wd), (1, .int (nI (mN M)))]) dX4_beat_222 3 rfl (nI_1 _) (by decide) rfl ?_
                        refine g_goto hX (pc := 225) (tgt := 9) dX4_beat_225 rfl ?_
                        refine g_pk [0, 3, 2, 0, 0] rfl ?_
                        refine g_cs (cs1 := [[(wd, ob 3 [.int (nI sz), .ref ma, .ref lb, .int nw, .int (Prod.snd (toAll (mMore M) (mN M) B (i + 1))), .ref r0, .ref r1, .ref r2, .ref r3, .ref mo])], [(ma, qA (aC E 4) sz (idA as))], wk39, w148, fz40]) rfl ?_
                        refine g_lv (lv1 := [(3, .int (nI (i + 1))), (2, .ref m), (0, .ref wd), (1, .int (nI (mN M)))]) [0, 4, 5, 6] rfl ?_
                        refine g_widen (kc1 := 0 + 4 * (i + 1)) (ks1 := 0 + 68 * (i + 1)) (by omega) (by omega) ?_
                        exact ih1 (i + 1) fz40 wk39 w148 (by omega) (by omega) (Ext.tr hxL hx41) h47 h51
                      · have d4 : mNx M i + c ≤ lLast (mL M) := by
                          rw [nI_ltI (by omega) (by omega)] at c37
                          omega
                        have hnq : mNext M i = mNx M i := by omega
                        refine g_aload hX (pc := 180) dX4_beat_180 1 rfl ?_
                        refine g_getN hX (pc := 182) fcX15 3 rfl 8 (by decide) q1895 rfl (v := .ref la28) rfl dX4_beat_182 ?_
                        obtain ⟨fs52, hm53⟩ := AL.head hw1.al
                        refine g_callV hX (pc := 185) kJ2_size (mt_AL_size E l la28 (List.map Prod.fst (List.take c (List.drop (mNext M i - lB (mL M) - 1) ges21))) w1 hw1.al) q1939 fcJ2 (sp_in 4 rfl hm53) [4] rfl rfl rfl (Nat.le_of_ble_eq_true rfl) (Nat.le_of_ble_eq_true rfl) (Nat.le_of_ble_eq_true rfl) (by omega) (by omega) dX4_beat_185 (fun v w1 hp => ?_)
                        obtain ⟨rfl, rfl⟩ := hp
                        refine g_nrm (cs1 := [w1, [(rk6, ob 5 [.int (lT (mL M)), .int (lV (mL M)), .int (nI (lB (mL M))), .int (lBT (mL M)), .ref sp20, .ref la19])], wl13, fzL, [(q26, ob 13 [.int 2, .int (nI (mN M)), .int (nI i), .int (lT (mL M)), .int (nI (mNext M i - 1)), .int (lTmA (mL M) (mNext M i - 1)), .int 0, .int (nI (mSu M)), .ref la28, .null])], [(wd, ob 3 [.int (nI sz), .ref ma, .ref lb, .int nw, .int (Prod.snd (toAll (mMore M) (mN M) B i)), .ref r0, .ref r1, .ref r2, .ref r3, .ref mo])], [(ma, qA (aC E 4) sz (idA as))], [(m, ob 4 [.int (mR M), .ref rk6, .ref rv7, .ref rs8, .int (nI (mDn M)), .int (nI (mSu M)), .int (mVt M), .ref rn9, .ref rp10, .int (bI (mLz M))])], [(rn9, iA (aC E 0) 5 fn11)], [(rp10, iA (aC E 0) 5 fk12)], ws14, wbL]) (st1 := [.int (nI (List.length (List.map Prod.fst (List.take c (List.drop (mNext M i - lB (mL M) - 1) ges21)))))]) rfl rfl ?_
                        refine g_iconst hX (pc := 188) (v := 2) dX4_beat_188 (by decide) ?_
                        refine g_icmp_ge hX (pc := 189) (tgt := 216) dX4_beat_189 rfl (fun c54 => ?_) (fun c54 => ?_)
                        · have d5 : 2 ≤ c := by
                            have hz := c54
                            rw [hglm] at hz
                            exact (nI_leI (a := 2) (b := c) (by omega) (by omega)).mp hz
                          have hc22 : c = 2 := by omega
                          have hc2 : (List.take c (List.drop (mNext M i - lB (mL M) - 1) ges21)) = List.take 2 (List.drop (mNext M i - lB (mL M) - 1) ges21) := by rw [hc22]
                          refine g_aload_n hX (pc := 216) dX4_beat_216 5 rfl ?_
                          refine g_aload hX (pc := 217) dX4_beat_217 1 rfl ?_
                          refine g_pk [7, 7, 7, 1, 1, 5] rfl ?_
                          refine g_cs (cs1 := [[(m, ob 4 [.int (mR M), .ref rk6, .ref rv7, .ref rs8, .int (nI (mDn M)), .int (nI (mSu M)), .int (mVt M), .ref rn9, .ref rp10, .int (bI (mLz M))])], [(rn9, iA (aC E 0) 5 fn11)], [(rp10, iA (aC E 0) 5 fk12)], [(rk6, ob 5 [.int (lT (mL M)), .int (lV (mL M)), .int (nI (lB (mL M))), .int (lBT (mL M)), .ref sp20, .ref la19])], wl13, ws14, w1, fzL, [(q26, ob 13 [.int 2, .int (nI (mN M)), .int (nI i), .int (lT (mL M)), .int (nI (mNext M i - 1)), .int (lTmA (mL M) (mNext M i - 1)), .int 0, .int (nI (mSu M)), .ref la28, .null])], [(wd, ob 3 [.int (nI sz), .ref ma, .ref lb, .int nw, .int (Prod.snd (toAll (mMore M) (mN M) B i)), .ref r0, .ref r1, .ref r2, .ref r3, .ref mo])], [(ma, qA (aC E 4) sz (idA as))], wbL]) rfl ?_
                          refine g_fl (cs1 := [((m, ob 4 [.int (mR M), .ref rk6, .ref rv7, .ref rs8, .int (nI (mDn M)), .int (nI (mSu M)), .int (mVt M), .ref rn9, .ref rp10, .int (bI (mLz M))]) :: (rn9, iA (aC E 0) 5 fn11) :: (rp10, iA (aC E 0) 5 fk12) :: (((rk6, ob 5 [.int (lT (mL M)), .int (lV (mL M)), .int (nI (lB (mL M))), .int (lBT (mL M)), .ref sp20, .ref la19]) :: wl13) ++ ws14)), w1, fzL, [(q26, ob 13 [.int 2, .int (nI (mN M)), .int (nI i), .int (lT (mL M)), .int (nI (mNext M i - 1)), .int (lTmA (mL M) (mNext M i - 1)), .int 0, .int (nI (mSu M)), .ref la28, .null])], [(wd, ob 3 [.int (nI sz), .ref ma, .ref lb, .int nw, .int (Prod.snd (toAll (mMore M) (mN M) B i)), .ref r0, .ref r1, .ref r2, .ref r3, .ref mo])], [(ma, qA (aC E 4) sz (idA as))], wbL]) (by simp only [List.flatten_cons, List.flatten_nil, List.cons_append, List.append_assoc, List.nil_append, List.append_nil]) ?_
                          have hM55 : IsMM E fzL sz m M ((m, ob 4 [.int (mR M), .ref rk6, .ref rv7, .ref rs8, .int (nI (mDn M)), .int (nI (mSu M)), .int (mVt M), .ref rn9, .ref rp10, .int (bI (mLz M))]) :: (rn9, iA (aC E 0) 5 fn11) :: (rp10, iA (aC E 0) 5 fk12) :: (((rk6, ob 5 [.int (lT (mL M)), .int (lV (mL M)), .int (nI (lB (mL M))), .int (lBT (mL M)), .ref sp20, .ref la19]) :: wl13) ++ ws14)) := ⟨_, _, _, _, _, _, _, _, _, hn15, ⟨_, _, _, _, hE22, hges23, hsp24, rfl⟩, hV17, hS18, rfl⟩
                          generalize ((m, ob 4 [.int (mR M), .ref rk6, .ref rv7, .ref rs8, .int (nI (mDn M)), .int (nI (mSu M)), .int (mVt M), .ref rn9, .ref rp10, .int (bI (mLz M))]) :: (rn9, iA (aC E 0) 5 fn11) :: (rp10, iA (aC E 0) 5 fk12) :: (((rk6, ob 5 [.int (lT (mL M)), .int (lV (mL M)), .int (nI (lB (mL M))), .int (lBT (mL M)), .ref sp20, .ref la19]) :: wl13) ++ ws14)) = wk56 at hM55 ⊢
                          refine g_pk [3, 1, 1] rfl ?_
                          refine g_cs (cs1 := [[(q26, ob 13 [.int 2, .int (nI (mN M)), .int (nI i), .int (lT (mL M)), .int (nI (mNext M i - 1)), .int (lTmA (mL M) (mNext M i - 1)), .int 0, .int (nI (mSu M)), .ref la28, .null])], w1, fzL, wk56, [(wd, ob 3 [.int (nI sz), .ref ma, .ref lb, .int nw, .int (Prod.snd (toAll (mMore M) (mN M) B i)), .ref r0, .ref r1, .ref r2, .ref r3, .ref mo])], [(ma, qA (aC E 4) sz (idA as))], wbL]) rfl ?_
                          refine g_fl (cs1 := [((q26, ob 13 [.int 2, .int (nI (mN M)), .int (nI i), .int (lT (mL M)), .int (nI (mNext M i - 1)), .int (lTmA (mL M) (mNext M i - 1)), .int 0, .int (nI (mSu M)), .ref la28, .null]) :: (w1 ++ (fzL))), wk56, [(wd, ob 3 [.int (nI sz), .ref ma, .ref lb, .int nw, .int (Prod.snd (toAll (mMore M) (mN M) B i)), .ref r0, .ref r1, .ref r2, .ref r3, .ref mo])], [(ma, qA (aC E 4) sz (idA as))], wbL]) (by simp only [List.flatten_cons, List.flatten_nil, List.cons_append, List.append_assoc, List.nil_append, List.append_nil]) ?_
                          have hx58 : Ext E fzL ((q26, ob 13 [.int 2, .int (nI (mN M)), .int (nI i), .int (lT (mL M)), .int (nI (mNext M i - 1)), .int (lTmA (mL M) (mNext M i - 1)), .int 0, .int (nI (mSu M)), .ref la28, .null]) :: (w1 ++ (fzL))) := fun q hq => (List.mem_cons_of_mem _ (List.mem_append_right _ hq))
                          have hm59 : (q26, ob 13 [.int 2, .int (nI (mN M)), .int (nI i), .int (lT (mL M)), .int (nI (mNext M i - 1)), .int (lTmA (mL M) (mNext M i - 1)), .int 0, .int (nI (mSu M)), .ref la28, .null]) ∈ ((q26, ob 13 [.int 2, .int (nI (mN M)), .int (nI i), .int (lT (mL M)), .int (nI (mNext M i - 1)), .int (lTmA (mL M) (mNext M i - 1)), .int 0, .int (nI (mSu M)), .ref la28, .null]) :: (w1 ++ (fzL))) := (List.mem_cons_self)
                          have hm60 : ∀ q ∈ w1, q ∈ ((q26, ob 13 [.int 2, .int (nI (mN M)), .int (nI i), .int (lT (mL M)), .int (nI (mNext M i - 1)), .int (lTmA (mL M) (mNext M i - 1)), .int 0, .int (nI (mSu M)), .ref la28, .null]) :: (w1 ++ (fzL))) := fun q hq => (List.mem_cons_of_mem _ (List.mem_append_left _ hq))
                          generalize ((q26, ob 13 [.int 2, .int (nI (mN M)), .int (nI i), .int (lT (mL M)), .int (nI (mNext M i - 1)), .int (lTmA (mL M) (mNext M i - 1)), .int 0, .int (nI (mSu M)), .ref la28, .null]) :: (w1 ++ (fzL))) = fz57 at hx58 hm59 hm60 ⊢
                          have h61 := MBL.mono hx58 hBL
                          have h62 := MTIn.mono hx58 hsp24
                          have h63 := KpIn.mono hx58 hV17
                          have h64 := IsMM.mono hx58 hM55
                          have hmm : GMIn E fz57 q26 (mMore M i) := by
                            rw [show mMore M i = ((2, mN M, i), (lT (mL M), mNext M i - 1, lTmA (mL M) (mNext M i - 1)), (false, mSu M, ((lE (mL M)).drop (mNext M i - lB (mL M) - 1)).take 2, lS (mL M))) from if_neg (by omega)]
                            refine ⟨_, _, (List.take c (List.drop (mNext M i - lB (mL M) - 1) ges21)), _, hm59, hm60, ⟨hw1.al, fun g hg => (fun g hg => hx58 _ (hE22.2 g hg)) g (List.mem_of_mem_drop (List.mem_of_mem_take hg))⟩, ?_, fun z => absurd z (by show ¬ (2 : Nat) = 4; decide)⟩
                            rw [hc2, List.map_take, List.map_drop, hges23]
                          refine g_callV hX (pc := 219) kX4_put (mt_W_put E l wd sz ma lb nw r0 r1 r2 r3 mo (toAll (mMore M) (mN M) B i) wbL fz57 q26 (mMore M i) h61 hmm (hle)) q1934 fcX4 (sp_mem (i := 2) rfl) [2, 3, 0] rfl rfl rfl (Nat.le_of_ble_eq_true rfl) (Nat.le_of_ble_eq_true rfl) (Nat.le_of_ble_eq_true rfl) (by omega) (by omega) dX4_beat_219 (fun v w1 hp => ?_)
                          obtain ⟨w165, h66, rfl, rfl⟩ := hp
                          refine g_nrm (cs1 := [[(wd, ob 3 [.int (nI sz), .ref ma, .ref lb, .int nw, .int (Prod.snd (bSend (toAll (mMore M) (mN M) B i) (mMore M i))), .ref r0, .ref r1, .ref r2, .ref r3, .ref mo])], w165, fz57, wk56, [(ma, qA (aC E 4) sz (idA as))]]) (st1 := []) rfl rfl ?_
                          have ht67 : toAll (mMore M) (mN M) B (i + 1) = bSend (toAll (mMore M) (mN M) B i) (mMore M i) := toAll_n d2
                          refine g_cs (cs1 := [[(wd, ob 3 [.int (nI sz), .ref ma, .ref lb, .int nw, .int (Prod.snd (toAll (mMore M) (mN M) B (i + 1))), .ref r0, .ref r1, .ref r2, .ref r3, .ref mo])], w165, fz57, wk56, [(ma, qA (aC E 4) sz (idA as))]]) (by rw [ht67]) ?_
                          have h68 : MBL E fz57 lb (Prod.fst (toAll (mMore M) (mN M) B (i + 1))) w165 := by rw [ht67]; exact h66
                          refine g_iinc hX (pc := 222) (v := nI (i + 1)) (lv1 := [(3, .int (nI (i + 1))), (6, .int (nI (mNx M i + c))), (5, .ref q26), (4, .int 0), (2, .ref m), (0, .ref wd), (1, .int (nI (mN M)))]) dX4_beat_222 3 rfl (nI_1 _) (by decide) rfl ?_
                          refine g_goto hX (pc := 225) (tgt := 9) dX4_beat_225 rfl ?_
                          refine g_pk [0, 3, 2, 0, 0] rfl ?_
                          refine g_cs (cs1 := [[(wd, ob 3 [.int (nI sz), .ref ma, .ref lb, .int nw, .int (Prod.snd (toAll (mMore M) (mN M) B (i + 1))), .ref r0, .ref r1, .ref r2, .ref r3, .ref mo])], [(ma, qA (aC E 4) sz (idA as))], wk56, w165, fz57]) rfl ?_
                          refine g_lv (lv1 := [(3, .int (nI (i + 1))), (2, .ref m), (0, .ref wd), (1, .int (nI (mN M)))]) [0, 4, 5, 6] rfl ?_
                          refine g_widen (kc1 := 0 + 4 * (i + 1)) (ks1 := 0 + 68 * (i + 1)) (by omega) (by omega) ?_
                          exact ih1 (i + 1) fz57 wk56 w165 (by omega) (by omega) (Ext.tr hxL hx58) h64 h68
                        · have d5 : c < 2 := by
                            have hz := c54
                            rw [hglm] at hz
                            have := mt (nI_leI (a := 2) (b := c) (by omega) (by omega)).mpr hz
                            omega
                          obtain ⟨g, hg⟩ := get_ex (l := ges21) (i := mNx M i + c - lB (mL M) - 1) (by omega)
                          have hz := men_at hE22.2 hg
                          have hxe : okE E fzL g.1 := Or.inr (Or.inl ⟨2, _, hz⟩)
                          have hxl : okL E fzL (List.map Prod.fst (List.take c (List.drop (mNext M i - lB (mL M) - 1) ges21))) := fun y hy => by
                            obtain ⟨q, hq, rfl⟩ := List.mem_map.mp hy
                            exact Or.inr (Or.inl ⟨2, _, hE22.2 q (List.mem_of_mem_drop (List.mem_of_mem_take hq))⟩)
                          obtain ⟨hs1, hs2, hs3⟩ := fl_step (n := c) (by omega)
                          have hfl := fl_le c
                          have hfm1 := fl_mono (a := c + 1) (b := 2) (by omega)
                          have e2 : al_mc (List.length (List.map Prod.fst (List.take c (List.drop (mNext M i - lB (mL M) - 1) ges21)))) (fl_cap c) = al_mc c (fl_cap c) := by rw [hglm]
                          have e3 : al_ms (List.length (List.map Prod.fst (List.take c (List.drop (mNext M i - lB (mL M) - 1) ges21)))) (fl_cap c) = al_ms c (fl_cap c) := by rw [hglm]
                          refine g_aload hX (pc := 192) dX4_beat_192 1 rfl ?_
                          refine g_getN hX (pc := 194) fcX15 4 rfl 8 (by decide) q1895 rfl (v := .ref la28) rfl dX4_beat_194 ?_
                          refine g_aload_n hX (pc := 197) dX4_beat_197 4 rfl ?_
                          refine g_getN hX (pc := 198) fcX5 7 rfl 1 (by decide) q1692 rfl (v := .ref rk6) rfl dX4_beat_198 ?_
                          refine g_iload hX (pc := 201) dX4_beat_201 0 rfl ?_
                          refine g_callV hX (pc := 203) kX6_at (mt_Kp_at E l rk6 (lT (mL M)) (lV (mL M)) (lB (mL M)) (lBT (mL M)) sp20 la19 fzL ges21 wl13 (mNx M i + c) g hE22 (hg) (by omega) (by omega)) q1964 fcX6 (sp_mem (i := 1) rfl) [1, 1, 1] rfl rfl rfl (Nat.le_of_ble_eq_true rfl) (Nat.le_of_ble_eq_true rfl) (Nat.le_of_ble_eq_true rfl) (by omega) (by omega) dX4_beat_203 (fun v w1 hp => ?_)
                          obtain ⟨rfl, rfl⟩ := hp
                          refine g_nrm (cs1 := [[(rk6, ob 5 [.int (lT (mL M)), .int (lV (mL M)), .int (nI (lB (mL M))), .int (lBT (mL M)), .ref sp20, .ref la19])], wl13, fzL, w1, [(q26, ob 13 [.int 2, .int (nI (mN M)), .int (nI i), .int (lT (mL M)), .int (nI (mNext M i - 1)), .int (lTmA (mL M) (mNext M i - 1)), .int 0, .int (nI (mSu M)), .ref la28, .null])], [(wd, ob 3 [.int (nI sz), .ref ma, .ref lb, .int nw, .int (Prod.snd (toAll (mMore M) (mN M) B i)), .ref r0, .ref r1, .ref r2, .ref r3, .ref mo])], [(ma, qA (aC E 4) sz (idA as))], [(m, ob 4 [.int (mR M), .ref rk6, .ref rv7, .ref rs8, .int (nI (mDn M)), .int (nI (mSu M)), .int (mVt M), .ref rn9, .ref rp10, .int (bI (mLz M))])], [(rn9, iA (aC E 0) 5 fn11)], [(rp10, iA (aC E 0) 5 fk12)], ws14, wbL]) (st1 := [.ref g.1, .ref la28]) rfl rfl ?_
                          refine g_callV hX (pc := 206) kJ2_add_2 (mt_ALc_add E l la28 (List.map Prod.fst (List.take c (List.drop (mNext M i - lB (mL M) - 1) ges21))) (fl_cap c) w1 g.1 fzL hw1 (by omega) (hxe) (hxl)) q1938 fcJ2 (sp_in 3 rfl hm53) [3, 2] rfl rfl rfl (Nat.le_of_ble_eq_true rfl) (Nat.le_of_ble_eq_true rfl) (Nat.le_of_ble_eq_true rfl) (by omega) (by omega) dX4_beat_206 (fun v w1 hp => ?_)
                          obtain ⟨w169, h70, rfl, rfl⟩ := hp
                          refine g_nrm (cs1 := [w169, fzL, [(rk6, ob 5 [.int (lT (mL M)), .int (lV (mL M)), .int (nI (lB (mL M))), .int (lBT (mL M)), .ref sp20, .ref la19])], wl13, [(q26, ob 13 [.int 2, .int (nI (mN M)), .int (nI i), .int (lT (mL M)), .int (nI (mNext M i - 1)), .int (lTmA (mL M) (mNext M i - 1)), .int 0, .int (nI (mSu M)), .ref la28, .null])], [(wd, ob 3 [.int (nI sz), .ref ma, .ref lb, .int nw, .int (Prod.snd (toAll (mMore M) (mN M) B i)), .ref r0, .ref r1, .ref r2, .ref r3, .ref mo])], [(ma, qA (aC E 4) sz (idA as))], [(m, ob 4 [.int (mR M), .ref rk6, .ref rv7, .ref rs8, .int (nI (mDn M)), .int (nI (mSu M)), .int (mVt M), .ref rn9, .ref rp10, .int (bI (mLz M))])], [(rn9, iA (aC E 0) 5 fn11)], [(rp10, iA (aC E 0) 5 fk12)], ws14, wbL]) (st1 := [.int 1]) rfl rfl ?_
                          refine g_pop hX (pc := 209) dX4_beat_209 rfl ?_
                          refine g_iinc hX (pc := 210) (v := nI ((mNx M i + c) + 1)) (lv1 := [(6, .int (nI ((mNx M i + c) + 1))), (5, .ref q26), (4, .int 0), (3, .int (nI i)), (2, .ref m), (0, .ref wd), (1, .int (nI (mN M)))]) dX4_beat_210 0 rfl (nI_1 _) (by decide) rfl ?_
                          refine g_goto hX (pc := 213) (tgt := 168) dX4_beat_213 rfl ?_
                          refine g_pk [2, 2, 1, 1, 0, 0, 0, 0, 0, 0, 0, 0] rfl ?_
                          refine g_cs (cs1 := [[(rk6, ob 5 [.int (lT (mL M)), .int (lV (mL M)), .int (nI (lB (mL M))), .int (lBT (mL M)), .ref sp20, .ref la19])], wl13, fzL, [(q26, ob 13 [.int 2, .int (nI (mN M)), .int (nI i), .int (lT (mL M)), .int (nI (mNext M i - 1)), .int (lTmA (mL M) (mNext M i - 1)), .int 0, .int (nI (mSu M)), .ref la28, .null])], w169, [(wd, ob 3 [.int (nI sz), .ref ma, .ref lb, .int nw, .int (Prod.snd (toAll (mMore M) (mN M) B i)), .ref r0, .ref r1, .ref r2, .ref r3, .ref mo])], [(ma, qA (aC E 4) sz (idA as))], [(m, ob 4 [.int (mR M), .ref rk6, .ref rv7, .ref rs8, .int (nI (mDn M)), .int (nI (mSu M)), .int (mVt M), .ref rn9, .ref rp10, .int (bI (mLz M))])], [(rn9, iA (aC E 0) 5 fn11)], [(rp10, iA (aC E 0) 5 fk12)], ws14, wbL]) rfl ?_
                          refine g_widen (kc1 := 0 + 4 * i + 1 + 1 + 0 + 0 + fl_mc (c + 1)) (ks1 := 0 + 68 * i + 10 + 3 + 0 + 0 + fl_ms (c + 1)) (by omega) (by omega) ?_
                          exact ih2 (c + 1) w169 (by omega) (by omega) (by omega) (by
  have hx := h70
  rw [hglm, hs1] at hx
  have e : List.take (c + 1) (List.drop (mNext M i - lB (mL M) - 1) ges21) = (List.take c (List.drop (mNext M i - lB (mL M) - 1) ges21)) ++ [g] := (take_snoc (by rw [List.getElem?_drop, hnq, show mNx M i - lB (mL M) - 1 + c = mNx M i + c - lB (mL M) - 1 by omega]; exact hg)).symm
  rw [e, List.map_append]
  exact hx)
                  refine g_widen (kc1 := 0 + 4 * i + 1 + 1 + 0 + 0 + fl_mc 0) (ks1 := 0 + 68 * i + 10 + 3 + 0 + 0 + fl_ms 0) (by omega) (by omega) ?_
                  exact lp36 ((2 - 0) + 1) 0 w29 (Nat.lt_succ_self _) (⟨by omega, by omega⟩) (Or.inl rfl) (h30)
                · exact absurd c35 (by decide)
              · exact absurd c31 (by decide)
            · exact absurd c27 (by decide)
          · have d3 : mNx M i ≤ lB (mL M) := by
              have := mt (nI_ltI (by omega) (by omega)).mpr c25
              omega
            refine g_iconst hX (pc := 41) (v := 1) dX4_beat_41 (by decide) ?_
            refine g_goto hX (pc := 42) (tgt := 46) dX4_beat_42 rfl ?_
            refine g_istore hX (pc := 46) (lv1 := [(4, .int 1), (3, .int (nI i)), (2, .ref m), (0, .ref wd), (1, .int (nI (mN M)))]) dX4_beat_46 (by decide) rfl ?_
            refine g_new hX (pc := 48) fcX15 q1868 q1869 q102 (fs := [.int 0, .int 0, .int 0, .int 0, .int 0, .int 0, .int 0, .int 0, .null, .null]) (fun j hj => by match j, hj with | 0, _ => rfl | 1, _ => rfl | 2, _ => rfl | 3, _ => rfl | 4, _ => rfl | 5, _ => rfl | 6, _ => rfl | 7, _ => rfl | 8, _ => rfl | 9, _ => rfl | j + 10, h => exact absurd h (by omega)) (by omega) (by omega) dX4_beat_48 (fun q71 => ?_)
            refine g_dup hX (pc := 51) dX4_beat_51 rfl ?_
            refine g_iload hX (pc := 52) dX4_beat_52 0 rfl ?_
            refine g_if_eq hX (pc := 54) (tgt := 61) dX4_beat_54 rfl (fun c72 => ?_) (fun c72 => ?_)
            · exact absurd c72 (by decide)
            · refine g_iconst hX (pc := 57) (v := 4) dX4_beat_57 (by decide) ?_
              refine g_goto hX (pc := 58) (tgt := 62) dX4_beat_58 rfl ?_
              refine g_iload_n hX (pc := 62) dX4_beat_62 4 rfl ?_
              refine g_iload_n hX (pc := 63) dX4_beat_63 1 rfl ?_
              refine g_aload_n hX (pc := 64) dX4_beat_64 2 rfl ?_
              refine g_getN hX (pc := 65) fcX5 3 rfl 1 (by decide) q1692 rfl (v := .ref rk6) rfl dX4_beat_65 ?_
              refine g_getN hX (pc := 68) fcX6 6 rfl 0 (by decide) q1656 rfl (v := .int (lT (mL M))) rfl dX4_beat_68 ?_
              refine g_callI hX (pc := 71) kX15_init (mt_GM_init E l q71 4 (nI (mN M)) (nI i) (lT (mL M))) q1870 [0] rfl rfl rfl (Nat.le_of_ble_eq_true rfl) (Nat.le_of_ble_eq_true rfl) (Nat.le_of_ble_eq_true rfl) (by omega) (by omega) dX4_beat_71 (fun v w1 hp => ?_)
              obtain ⟨la73, w74, h75, rfl, rfl⟩ := hp
              refine g_nrm (cs1 := [[(q71, ob 13 [.int 4, .int (nI (mN M)), .int (nI i), .int (lT (mL M)), .int 0, .int 0, .int 0, .int 0, .ref la73, .null])], w74, [(wd, ob 3 [.int (nI sz), .ref ma, .ref lb, .int nw, .int (Prod.snd (toAll (mMore M) (mN M) B i)), .ref r0, .ref r1, .ref r2, .ref r3, .ref mo])], [(ma, qA (aC E 4) sz (idA as))], [(m, ob 4 [.int (mR M), .ref rk6, .ref rv7, .ref rs8, .int (nI (mDn M)), .int (nI (mSu M)), .int (mVt M), .ref rn9, .ref rp10, .int (bI (mLz M))])], [(rn9, iA (aC E 0) 5 fn11)], [(rp10, iA (aC E 0) 5 fk12)], [(rk6, ob 5 [.int (lT (mL M)), .int (lV (mL M)), .int (nI (lB (mL M))), .int (lBT (mL M)), .ref sp20, .ref la19])], wl13, ws14, wbL, fzL]) (st1 := [.ref q71]) rfl rfl ?_
              refine g_astore hX (pc := 74) (lv1 := [(5, .ref q71), (4, .int 1), (3, .int (nI i)), (2, .ref m), (0, .ref wd), (1, .int (nI (mN M)))]) dX4_beat_74 (by decide) rfl ?_
              refine g_aload hX (pc := 76) dX4_beat_76 0 rfl ?_
              refine g_iload hX (pc := 78) dX4_beat_78 1 rfl ?_
              refine g_if_eq hX (pc := 80) (tgt := 93) dX4_beat_80 rfl (fun c76 => ?_) (fun c76 => ?_)
              · exact absurd c76 (by decide)
              · refine g_aload_n hX (pc := 83) dX4_beat_83 3 rfl ?_
                refine g_getN hX (pc := 84) fcX5 4 rfl 1 (by decide) q1692 rfl (v := .ref rk6) rfl dX4_beat_84 ?_
                refine g_getN hX (pc := 87) fcX6 7 rfl 2 (by decide) q1662 rfl (v := .int (nI (lB (mL M)))) rfl dX4_beat_87 ?_
                refine g_goto hX (pc := 90) (tgt := 111) dX4_beat_90 rfl ?_
                refine g_putN hX (pc := 111) fcX15 0 (fs1 := [.int 4, .int (nI (mN M)), .int (nI i), .int (lT (mL M)), .int (nI (lB (mL M))), .int 0, .int 0, .int 0, .ref la73, .null]) (cs1 := [[(q71, ob 13 [.int 4, .int (nI (mN M)), .int (nI i), .int (lT (mL M)), .int (nI (lB (mL M))), .int 0, .int 0, .int 0, .ref la73, .null])], w74, [(wd, ob 3 [.int (nI sz), .ref ma, .ref lb, .int nw, .int (Prod.snd (toAll (mMore M) (mN M) B i)), .ref r0, .ref r1, .ref r2, .ref r3, .ref mo])], [(ma, qA (aC E 4) sz (idA as))], [(m, ob 4 [.int (mR M), .ref rk6, .ref rv7, .ref rs8, .int (nI (mDn M)), .int (nI (mSu M)), .int (mVt M), .ref rn9, .ref rp10, .int (bI (mLz M))])], [(rn9, iA (aC E 0) 5 fn11)], [(rp10, iA (aC E 0) 5 fk12)], [(rk6, ob 5 [.int (lT (mL M)), .int (lV (mL M)), .int (nI (lB (mL M))), .int (lBT (mL M)), .ref sp20, .ref la19])], wl13, ws14, wbL, fzL]) rfl 4 (by decide) q1888 rfl rfl rfl rfl (Nat.le_of_ble_eq_true rfl) rfl rfl dX4_beat_111 ?_
                refine g_aload hX (pc := 114) dX4_beat_114 0 rfl ?_
                refine g_aload_n hX (pc := 116) dX4_beat_116 3 rfl ?_
                refine g_getN hX (pc := 117) fcX5 4 rfl 1 (by decide) q1692 rfl (v := .ref rk6) rfl dX4_beat_117 ?_
                refine g_aload hX (pc := 120) dX4_beat_120 0 rfl ?_
                refine g_getN hX (pc := 122) fcX15 0 rfl 4 (by decide) q1888 rfl (v := .int (nI (lB (mL M)))) rfl dX4_beat_122 ?_
                obtain ⟨g77, hg78, ht79⟩ := mtm_ex (L := (mL M)) (n := (lB (mL M))) hges23 (by omega) (by omega)
                refine g_callV hX (pc := 125) kX6_termOf (mt_Kp_termOf E l rk6 (lT (mL M)) (lV (mL M)) (lB (mL M)) (lBT (mL M)) sp20 la19 fzL ges21 wl13 (lB (mL M)) g77 hE22 (hg78) (by omega) (by omega)) q1924 fcX6 (sp_mem (i := 7) rfl) [7, 7, 9] rfl rfl rfl (Nat.le_of_ble_eq_true rfl) (Nat.le_of_ble_eq_true rfl) (Nat.le_of_ble_eq_true rfl) (by omega) (by omega) dX4_beat_125 (fun v w1 hp => ?_)
                obtain ⟨rfl, rfl⟩ := hp
                refine g_nrm (cs1 := [[(rk6, ob 5 [.int (lT (mL M)), .int (lV (mL M)), .int (nI (lB (mL M))), .int (lBT (mL M)), .ref sp20, .ref la19])], wl13, fzL, [(q71, ob 13 [.int 4, .int (nI (mN M)), .int (nI i), .int (lT (mL M)), .int (nI (lB (mL M))), .int 0, .int 0, .int 0, .ref la73, .null])], w74, [(wd, ob 3 [.int (nI sz), .ref ma, .ref lb, .int nw, .int (Prod.snd (toAll (mMore M) (mN M) B i)), .ref r0, .ref r1, .ref r2, .ref r3, .ref mo])], [(ma, qA (aC E 4) sz (idA as))], [(m, ob 4 [.int (mR M), .ref rk6, .ref rv7, .ref rs8, .int (nI (mDn M)), .int (nI (mSu M)), .int (mVt M), .ref rn9, .ref rp10, .int (bI (mLz M))])], [(rn9, iA (aC E 0) 5 fn11)], [(rp10, iA (aC E 0) 5 fk12)], ws14, wbL]) (st1 := [.int (if (lB (mL M)) = (lB (mL M)) then (lBT (mL M)) else g77.2.1), .ref q71]) rfl rfl ?_
                refine g_eqi (lTmA (mL M) (lB (mL M))) (ht79) ?_
                refine g_eqi (lBT (mL M)) (by unfold lTmA lTm; rw [if_pos rfl]) ?_
                refine g_putN hX (pc := 128) fcX15 3 (fs1 := [.int 4, .int (nI (mN M)), .int (nI i), .int (lT (mL M)), .int (nI (lB (mL M))), .int (lBT (mL M)), .int 0, .int 0, .ref la73, .null]) (cs1 := [[(rk6, ob 5 [.int (lT (mL M)), .int (lV (mL M)), .int (nI (lB (mL M))), .int (lBT (mL M)), .ref sp20, .ref la19])], wl13, fzL, [(q71, ob 13 [.int 4, .int (nI (mN M)), .int (nI i), .int (lT (mL M)), .int (nI (lB (mL M))), .int (lBT (mL M)), .int 0, .int 0, .ref la73, .null])], w74, [(wd, ob 3 [.int (nI sz), .ref ma, .ref lb, .int nw, .int (Prod.snd (toAll (mMore M) (mN M) B i)), .ref r0, .ref r1, .ref r2, .ref r3, .ref mo])], [(ma, qA (aC E 4) sz (idA as))], [(m, ob 4 [.int (mR M), .ref rk6, .ref rv7, .ref rs8, .int (nI (mDn M)), .int (nI (mSu M)), .int (mVt M), .ref rn9, .ref rp10, .int (bI (mLz M))])], [(rn9, iA (aC E 0) 5 fn11)], [(rp10, iA (aC E 0) 5 fk12)], ws14, wbL]) rfl 5 (by decide) q1890 rfl rfl rfl rfl (Nat.le_of_ble_eq_true rfl) rfl rfl dX4_beat_128 ?_
                refine g_iload hX (pc := 131) dX4_beat_131 1 rfl ?_
                refine g_if_eq hX (pc := 133) (tgt := 151) dX4_beat_133 rfl (fun c80 => ?_) (fun c80 => ?_)
                · exact absurd c80 (by decide)
                · refine g_aload hX (pc := 136) dX4_beat_136 0 rfl ?_
                  refine g_aload_n hX (pc := 138) dX4_beat_138 3 rfl ?_
                  refine g_getN hX (pc := 139) fcX5 7 rfl 1 (by decide) q1692 rfl (v := .ref rk6) rfl dX4_beat_139 ?_
                  refine g_getN hX (pc := 142) fcX6 0 rfl 4 (by decide) q1668 rfl (v := .ref sp20) rfl dX4_beat_142 ?_
                  refine g_putN hX (pc := 145) fcX15 3 (fs1 := [.int 4, .int (nI (mN M)), .int (nI i), .int (lT (mL M)), .int (nI (lB (mL M))), .int (lBT (mL M)), .int 0, .int 0, .ref la73, .ref sp20]) (cs1 := [[(rk6, ob 5 [.int (lT (mL M)), .int (lV (mL M)), .int (nI (lB (mL M))), .int (lBT (mL M)), .ref sp20, .ref la19])], wl13, fzL, [(q71, ob 13 [.int 4, .int (nI (mN M)), .int (nI i), .int (lT (mL M)), .int (nI (lB (mL M))), .int (lBT (mL M)), .int 0, .int 0, .ref la73, .ref sp20])], w74, [(wd, ob 3 [.int (nI sz), .ref ma, .ref lb, .int nw, .int (Prod.snd (toAll (mMore M) (mN M) B i)), .ref r0, .ref r1, .ref r2, .ref r3, .ref mo])], [(ma, qA (aC E 4) sz (idA as))], [(m, ob 4 [.int (mR M), .ref rk6, .ref rv7, .ref rs8, .int (nI (mDn M)), .int (nI (mSu M)), .int (mVt M), .ref rn9, .ref rp10, .int (bI (mLz M))])], [(rn9, iA (aC E 0) 5 fn11)], [(rp10, iA (aC E 0) 5 fk12)], ws14, wbL]) rfl 9 (by decide) q1897 rfl rfl rfl rfl (Nat.le_of_ble_eq_true rfl) rfl rfl dX4_beat_145 ?_
                  refine g_goto hX (pc := 148) (tgt := 216) dX4_beat_148 rfl ?_
                  refine g_aload_n hX (pc := 216) dX4_beat_216 4 rfl ?_
                  refine g_aload hX (pc := 217) dX4_beat_217 0 rfl ?_
                  refine g_pk [7, 7, 7, 0, 0, 5] rfl ?_
                  refine g_cs (cs1 := [[(m, ob 4 [.int (mR M), .ref rk6, .ref rv7, .ref rs8, .int (nI (mDn M)), .int (nI (mSu M)), .int (mVt M), .ref rn9, .ref rp10, .int (bI (mLz M))])], [(rn9, iA (aC E 0) 5 fn11)], [(rp10, iA (aC E 0) 5 fk12)], [(rk6, ob 5 [.int (lT (mL M)), .int (lV (mL M)), .int (nI (lB (mL M))), .int (lBT (mL M)), .ref sp20, .ref la19])], wl13, ws14, fzL, [(q71, ob 13 [.int 4, .int (nI (mN M)), .int (nI i), .int (lT (mL M)), .int (nI (lB (mL M))), .int (lBT (mL M)), .int 0, .int 0, .ref la73, .ref sp20])], w74, [(wd, ob 3 [.int (nI sz), .ref ma, .ref lb, .int nw, .int (Prod.snd (toAll (mMore M) (mN M) B i)), .ref r0, .ref r1, .ref r2, .ref r3, .ref mo])], [(ma, qA (aC E 4) sz (idA as))], wbL]) rfl ?_
                  refine g_fl (cs1 := [((m, ob 4 [.int (mR M), .ref rk6, .ref rv7, .ref rs8, .int (nI (mDn M)), .int (nI (mSu M)), .int (mVt M), .ref rn9, .ref rp10, .int (bI (mLz M))]) :: (rn9, iA (aC E 0) 5 fn11) :: (rp10, iA (aC E 0) 5 fk12) :: (((rk6, ob 5 [.int (lT (mL M)), .int (lV (mL M)), .int (nI (lB (mL M))), .int (lBT (mL M)), .ref sp20, .ref la19]) :: wl13) ++ ws14)), fzL, [(q71, ob 13 [.int 4, .int (nI (mN M)), .int (nI i), .int (lT (mL M)), .int (nI (lB (mL M))), .int (lBT (mL M)), .int 0, .int 0, .ref la73, .ref sp20])], w74, [(wd, ob 3 [.int (nI sz), .ref ma, .ref lb, .int nw, .int (Prod.snd (toAll (mMore M) (mN M) B i)), .ref r0, .ref r1, .ref r2, .ref r3, .ref mo])], [(ma, qA (aC E 4) sz (idA as))], wbL]) (by simp only [List.flatten_cons, List.flatten_nil, List.cons_append, List.append_assoc, List.nil_append, List.append_nil]) ?_
                  have hM81 : IsMM E fzL sz m M ((m, ob 4 [.int (mR M), .ref rk6, .ref rv7, .ref rs8, .int (nI (mDn M)), .int (nI (mSu M)), .int (mVt M), .ref rn9, .ref rp10, .int (bI (mLz M))]) :: (rn9, iA (aC E 0) 5 fn11) :: (rp10, iA (aC E 0) 5 fk12) :: (((rk6, ob 5 [.int (lT (mL M)), .int (lV (mL M)), .int (nI (lB (mL M))), .int (lBT (mL M)), .ref sp20, .ref la19]) :: wl13) ++ ws14)) := ⟨_, _, _, _, _, _, _, _, _, hn15, ⟨_, _, _, _, hE22, hges23, hsp24, rfl⟩, hV17, hS18, rfl⟩
                  generalize ((m, ob 4 [.int (mR M), .ref rk6, .ref rv7, .ref rs8, .int (nI (mDn M)), .int (nI (mSu M)), .int (mVt M), .ref rn9, .ref rp10, .int (bI (mLz M))]) :: (rn9, iA (aC E 0) 5 fn11) :: (rp10, iA (aC E 0) 5 fk12) :: (((rk6, ob 5 [.int (lT (mL M)), .int (lV (mL M)), .int (nI (lB (mL M))), .int (lBT (mL M)), .ref sp20, .ref la19]) :: wl13) ++ ws14)) = wk82 at hM81 ⊢
                  refine g_pk [2, 2, 1] rfl ?_
                  refine g_cs (cs1 := [[(q71, ob 13 [.int 4, .int (nI (mN M)), .int (nI i), .int (lT (mL M)), .int (nI (lB (mL M))), .int (lBT (mL M)), .int 0, .int 0, .ref la73, .ref sp20])], w74, fzL, wk82, [(wd, ob 3 [.int (nI sz), .ref ma, .ref lb, .int nw, .int (Prod.snd (toAll (mMore M) (mN M) B i)), .ref r0, .ref r1, .ref r2, .ref r3, .ref mo])], [(ma, qA (aC E 4) sz (idA as))], wbL]) rfl ?_
                  refine g_fl (cs1 := [((q71, ob 13 [.int 4, .int (nI (mN M)), .int (nI i), .int (lT (mL M)), .int (nI (lB (mL M))), .int (lBT (mL M)), .int 0, .int 0, .ref la73, .ref sp20]) :: (w74 ++ (fzL))), wk82, [(wd, ob 3 [.int (nI sz), .ref ma, .ref lb, .int nw, .int (Prod.snd (toAll (mMore M) (mN M) B i)), .ref r0, .ref r1, .ref r2, .ref r3, .ref mo])], [(ma, qA (aC E 4) sz (idA as))], wbL]) (by simp only [List.flatten_cons, List.flatten_nil, List.cons_append, List.append_assoc, List.nil_append, List.append_nil]) ?_
                  have hx84 : Ext E fzL ((q71, ob 13 [.int 4, .int (nI (mN M)), .int (nI i), .int (lT (mL M)), .int (nI (lB (mL M))), .int (lBT (mL M)), .int 0, .int 0, .ref la73, .ref sp20]) :: (w74 ++ (fzL))) := fun q hq => (List.mem_cons_of_mem _ (List.mem_append_right _ hq))
                  have hm85 : (q71, ob 13 [.int 4, .int (nI (mN M)), .int (nI i), .int (lT (mL M)), .int (nI (lB (mL M))), .int (lBT (mL M)), .int 0, .int 0, .ref la73, .ref sp20]) ∈ ((q71, ob 13 [.int 4, .int (nI (mN M)), .int (nI i), .int (lT (mL M)), .int (nI (lB (mL M))), .int (lBT (mL M)), .int 0, .int 0, .ref la73, .ref sp20]) :: (w74 ++ (fzL))) := (List.mem_cons_self)
                  have hm86 : ∀ q ∈ w74, q ∈ ((q71, ob 13 [.int 4, .int (nI (mN M)), .int (nI i), .int (lT (mL M)), .int (nI (lB (mL M))), .int (lBT (mL M)), .int 0, .int 0, .ref la73, .ref sp20]) :: (w74 ++ (fzL))) := fun q hq => (List.mem_cons_of_mem _ (List.mem_append_left _ hq))
                  generalize ((q71, ob 13 [.int 4, .int (nI (mN M)), .int (nI i), .int (lT (mL M)), .int (nI (lB (mL M))), .int (lBT (mL M)), .int 0, .int 0, .ref la73, .ref sp20]) :: (w74 ++ (fzL))) = fz83 at hx84 hm85 hm86 ⊢
                  have h87 := MBL.mono hx84 hBL
                  have h88 := MTIn.mono hx84 hsp24
                  have h89 := KpIn.mono hx84 hV17
                  have h90 := IsMM.mono hx84 hM81
                  have hmm : GMIn E fz83 q71 (mMore M i) := by
                    rw [show mMore M i = mk0 4 M i (lB (mL M)) (lBT (mL M)) from if_pos (by omega)]
                    exact ⟨_, _, [], _, hm85, hm86, ⟨h75.al, fun g hg => absurd hg List.not_mem_nil⟩, rfl, fun _ => ⟨_, rfl, h88⟩⟩
                  refine g_callV hX (pc := 219) kX4_put (mt_W_put E l wd sz ma lb nw r0 r1 r2 r3 mo (toAll (mMore M) (mN M) B i) wbL fz83 q71 (mMore M i) h87 hmm (hle)) q1934 fcX4 (sp_mem (i := 2) rfl) [2, 3, 0] rfl rfl rfl (Nat.le_of_ble_eq_true rfl) (Nat.le_of_ble_eq_true rfl) (Nat.le_of_ble_eq_true rfl) (by omega) (by omega) dX4_beat_219 (fun v w1 hp => ?_)
                  obtain ⟨w191, h92, rfl, rfl⟩ := hp
                  refine g_nrm (cs1 := [[(wd, ob 3 [.int (nI sz), .ref ma, .ref lb, .int nw, .int (Prod.snd (bSend (toAll (mMore M) (mN M) B i) (mMore M i))), .ref r0, .ref r1, .ref r2, .ref r3, .ref mo])], w191, fz83, wk82, [(ma, qA (aC E 4) sz (idA as))]]) (st1 := []) rfl rfl ?_
                  have ht93 : toAll (mMore M) (mN M) B (i + 1) = bSend (toAll (mMore M) (mN M) B i) (mMore M i) := toAll_n d2
                  refine g_cs (cs1 := [[(wd, ob 3 [.int (nI sz), .ref ma, .ref lb, .int nw, .int (Prod.snd (toAll (mMore M) (mN M) B (i + 1))), .ref r0, .ref r1, .ref r2, .ref r3, .ref mo])], w191, fz83, wk82, [(ma, qA (aC E 4) sz (idA as))]]) (by rw [ht93]) ?_
                  have h94 : MBL E fz83 lb (Prod.fst (toAll (mMore M) (mN M) B (i + 1))) w191 := by rw [ht93]; exact h92
                  refine g_iinc hX (pc := 222) (v := nI (i + 1)) (lv1 := [(3, .int (nI (i + 1))), (5, .ref q71), (4, .int 1), (2, .ref m), (0, .ref wd), (1, .int (nI (mN M)))]) dX4_beat_222 2 rfl (nI_1 _) (by decide) rfl ?_
                  refine g_goto hX (pc := 225) (tgt := 9) dX4_beat_225 rfl ?_
                  refine g_pk [0, 3, 2, 0, 0] rfl ?_
                  refine g_cs (cs1 := [[(wd, ob 3 [.int (nI sz), .ref ma, .ref lb, .int nw, .int (Prod.snd (toAll (mMore M) (mN M) B (i + 1))), .ref r0, .ref r1, .ref r2, .ref r3, .ref mo])], [(ma, qA (aC E 4) sz (idA as))], wk82, w191, fz83]) rfl ?_
                  refine g_lv (lv1 := [(3, .int (nI (i + 1))), (2, .ref m), (0, .ref wd), (1, .int (nI (mN M)))]) [0, 3, 4, 5] rfl ?_
                  refine g_widen (kc1 := 0 + 4 * (i + 1)) (ks1 := 0 + 68 * (i + 1)) (by omega) (by omega) ?_
                  exact ih1 (i + 1) fz83 wk82 w191 (by omega) (by omega) (Ext.tr hxL hx84) h90 h94
        · have d2 : i = mN M := (nI_eq (by omega) (by omega)).mp c5
          have ht95 : toAll (mMore M) (mN M) B (i + 1) = toAll (mMore M) (mN M) B i := toAll_p d2
          refine g_cs (cs1 := [[(wd, ob 3 [.int (nI sz), .ref ma, .ref lb, .int nw, .int (Prod.snd (toAll (mMore M) (mN M) B (i + 1))), .ref r0, .ref r1, .ref r2, .ref r3, .ref mo])], [(ma, qA (aC E 4) sz (idA as))], wkL, wbL, fzL]) (by rw [ht95]) ?_
          have h96 : MBL E fzL lb (Prod.fst (toAll (mMore M) (mN M) B (i + 1))) wbL := by rw [ht95]; exact hBL
          refine g_goto hX (pc := 22) (tgt := 222) dX4_beat_22 rfl ?_
          refine g_iinc hX (pc := 222) (v := nI (i + 1)) (lv1 := [(3, .int (nI (i + 1))), (2, .ref m), (0, .ref wd), (1, .int (nI (mN M)))]) dX4_beat_222 0 rfl (nI_1 _) (by decide) rfl ?_
          refine g_goto hX (pc := 225) (tgt := 9) dX4_beat_225 rfl ?_
          refine g_widen (kc1 := 0 + 4 * (i + 1)) (ks1 := 0 + 68 * (i + 1)) (by omega) (by omega) ?_
          exact ih1 (i + 1) fzL wkL wbL (by omega) (by omega) hxL hML h96
  refine g_widen (kc1 := 0 + 4 * 0) (ks1 := 0 + 68 * 0) (by omega) (by omega) ?_
  exact lp1 ((sz - 0) + 1) 0 fz wk wb (Nat.lt_succ_self _) (Nat.zero_le _) (Ext.rfl') hM (hB)

theorem mt_W_beatK (E : EE) (l : Launch) (wd : Nat) (sz : Nat) (ma : Nat) (lb : Nat) (nw : Int32) (r0 : Nat) (r1 : Nat) (r2 : Nat) (r3 : Nat) (mo : Nat) (as : List Nat) (m : Nat) (M : PM) (wk : va_W) (fz : va_W) (B : PB) (wb : va_W) (k : Nat) (hM : IsMM E fz sz m M wk) (hB : MBL E fz lb (Prod.fst B) wb) (hm : (as[k]? = some m)) (hk : (k < sz)) (h5 : (sz ≤ 5)) (hxa : (∀ k, k < 5 → 1 ≤ mNx M k ∧ mNx M k ≤ 1000)) (hl : (lLast (mL M) ≤ 1000)) (hn : (List.length (Prod.fst B) ≤ 30)) (hmk : (mN M = k)) : Mt E l yX4_beat cX4_beat 7 none 8 (4 * sz) (68 * sz) 192 [.ref wd, .int (nI k)] [[(wd, ob 3 [.int (nI sz), .ref ma, .ref lb, .int nw, .int (Prod.snd B), .ref r0, .ref r1, .ref r2, .ref r3, .ref mo])], [(ma, qA (aC E 4) sz (idA as))], wk, wb, fz] (fun (v_ : Option Value) (cs_ : List va_W) => ∃ (fz1 : va_W) (w1 : va_W) (w2 : va_W), Ext E fz fz1 ∧ IsMM E fz1 sz m M w1 ∧ MBL E fz1 lb (Prod.fst (toAll (mMore M) (mN M) B sz)) w2 ∧ v_ = none ∧ cs_ = [[(wd, ob 3 [.int (nI sz), .ref ma, .ref lb, .int nw, .int (Prod.snd (toAll (mMore M) (mN M) B sz)), .ref r0, .ref r1, .ref r2, .ref r3, .ref mo])], [(ma, qA (aC E 4) sz (idA as))], w1, w2, fz1]) := by
  subst hmk
  exact mt_W_beat E l wd sz ma lb nw r0 r1 r2 r3 mo as m M wk fz B wb hM hB hm hk h5 hxa hl hn

set_option maxHeartbeats 4000000 in
theorem mt_W_lead (E : EE) (l : Launch) (wd : Nat) (sz : Nat) (ma : Nat) (lb : Nat) (nw : Int32) (r0 : Nat) (r1 : Nat) (r2 : Nat) (r3 : Nat) (mo : Nat) (as : List Nat) (m : Nat) (M : PM) (wk : va_W) (fz : va_W) (B : PB) (wb : va_W) (hM : IsMM E fz sz m M wk) (hB : MBL E fz lb (Prod.fst B) wb) (hm : (as[mN M]? = some m)) (hk : (mN M < sz)) (h5 : (sz ≤ 5)) (hl : (lLast (mL M) ≤ 55)) (hn : (List.length (Prod.fst B) ≤ 30)) : Mt E l yX4_lead cX4_lead 4 none 9 (2 + 4 * sz) (84 + 68 * sz) 218 [.ref wd, .int (nI (mN M))] [[(wd, ob 3 [.int (nI sz), .ref ma, .ref lb, .int nw, .int (Prod.snd B), .ref r0, .ref r1, .ref r2, .ref r3, .ref mo])], [(ma, qA (aC E 4) sz (idA as))], wk, wb, fz] (fun (v_ : Option Value) (cs_ : List va_W) => ∃ (fz1 : va_W) (w1 : va_W) (w2 : va_W), Ext E fz fz1 ∧ IsMM E fz1 sz m (mLead M) w1 ∧ MBL E fz1 lb (Prod.fst (beatAll sz (mLead M) B)) w2 ∧ v_ = none ∧ cs_ = [[(wd, ob 3 [.int (nI sz), .ref ma, .ref lb, .int nw, .int (Prod.snd (beatAll sz (mLead M) B)), .ref r0, .ref r1, .ref r2, .ref r3, .ref mo])], [(ma, qA (aC E 4) sz (idA as))], w1, w2, fz1]) := by
  have hll : lLast (mL M) = lB (mL M) + (lE (mL M)).length := rfl
  refine Mt.of (by decide) (Nat.le_of_ble_eq_true rfl) (fun X hX hR hin => ?_)
  refine g_lv1 (lv1 := [(0, .ref wd), (1, .int (nI (mN M)))]) rfl ?_
  refine g_aload_n hX (pc := 0) dX4_lead_0 0 rfl ?_
  refine g_get hX (pc := 1) fcX4 0 rfl 1 (by decide) q1741 rfl (v := .ref ma) rfl dX4_lead_1 ?_
  refine g_iload_n hX (pc := 4) dX4_lead_4 1 rfl ?_
  refine g_aald hX (pc := 5) (t0 := 4) rfl (sp_mem (i := 1) rfl) (y := m) (vp_in_nI (by omega) (by omega)) (by rw [nI_clamp (by omega)]; exact hm) dX4_lead_5 ?_
  refine g_astore_n hX (pc := 6) (lv1 := [(2, .ref m), (0, .ref wd), (1, .int (nI (mN M)))]) dX4_lead_6 (by decide) rfl ?_
  obtain ⟨rk1, rv2, rs3, rn4, rp5, fn6, fk7, wl8, ws9, hn10, hK11, hV12, hS13, rfl⟩ := hM
  obtain ⟨la14, sp15, ges16, wl8, hE17, hges18, hsp19, rfl⟩ := hK11
  refine g_fl (cs1 := [[(wd, ob 3 [.int (nI sz), .ref ma, .ref lb, .int nw, .int (Prod.snd B), .ref r0, .ref r1, .ref r2, .ref r3, .ref mo])], [(ma, qA (aC E 4) sz (idA as))], [(m, ob 4 [.int (mR M), .ref rk1, .ref rv2, .ref rs3, .int (nI (mDn M)), .int (nI (mSu M)), .int (mVt M), .ref rn4, .ref rp5, .int (bI (mLz M))])], [(rn4, iA (aC E 0) 5 fn6)], [(rp5, iA (aC E 0) 5 fk7)], [(rk1, ob 5 [.int (lT (mL M)), .int (lV (mL M)), .int (nI (lB (mL M))), .int (lBT (mL M)), .ref sp15, .ref la14])], wl8, ws9, wb, fz]) (by simp only [List.flatten_cons, List.flatten_nil, List.cons_append, List.append_assoc, List.nil_append, List.append_nil]) ?_
  have hl_ges16 : List.length ges16 = List.length (lE (mL M)) := by rw [← hges18, List.length_map]
  refine g_aload_n hX (pc := 7) dX4_lead_7 0 rfl ?_
  refine g_iconst hX (pc := 8) (v := 3) dX4_lead_8 (by decide) ?_
  refine g_putN hX (pc := 9) fcX5 2 (fs1 := [.int 3, .ref rk1, .ref rv2, .ref rs3, .int (nI (mDn M)), .int (nI (mSu M)), .int (mVt M), .ref rn4, .ref rp5, .int (bI (mLz M))]) (cs1 := [[(wd, ob 3 [.int (nI sz), .ref ma, .ref lb, .int nw, .int (Prod.snd B), .ref r0, .ref r1, .ref r2, .ref r3, .ref mo])], [(ma, qA (aC E 4) sz (idA as))], [(m, ob 4 [.int 3, .ref rk1, .ref rv2, .ref rs3, .int (nI (mDn M)), .int (nI (mSu M)), .int (mVt M), .ref rn4, .ref rp5, .int (bI (mLz M))])], [(rn4, iA (aC E 0) 5 fn6)], [(rp5, iA (aC E 0) 5 fk7)], [(rk1, ob 5 [.int (lT (mL M)), .int (lV (mL M)), .int (nI (lB (mL M))), .int (lBT (mL M)), .ref sp15, .ref la14])], wl8, ws9, wb, fz]) rfl 0 (by decide) q1689 rfl rfl rfl rfl (Nat.le_of_ble_eq_true rfl) rfl rfl dX4_lead_9 ?_
  refine g_aload_n hX (pc := 12) dX4_lead_12 1 rfl ?_
  refine g_aload_n hX (pc := 13) dX4_lead_13 0 rfl ?_
  refine g_iconst hX (pc := 14) (v := (-1)) dX4_lead_14 (by decide) ?_
  refine g_callV hX (pc := 15) kX4_add (mt_W_add E l wd m 3 rk1 rv2 rs3 (nI (mDn M)) (nI (mSu M)) (mVt M) rn4 rp5 (bI (mLz M)) (lT (mL M)) (lV (mL M)) (lB (mL M)) (lBT (mL M)) sp15 la14 fz ges16 wl8 (-1) 55 hE17 (by rw [hl_ges16]; omega) (by omega)) q1955 fcX4 (sp_mem (i := 0) rfl) [2, 4, 4, 6] rfl rfl rfl (Nat.le_of_ble_eq_true rfl) (Nat.le_of_ble_eq_true rfl) (Nat.le_of_ble_eq_true rfl) (by omega) (by omega) dX4_lead_15 (fun v w1 hp => ?_)
  obtain ⟨qe, fz120, w121, h22, h23, rfl, rfl⟩ := hp
  refine g_nrm (cs1 := [[(m, ob 4 [.int 3, .ref rk1, .ref rv2, .ref rs3, .int (nI (mDn M)), .int (nI (mSu M)), .int (mVt M), .ref rn4, .ref rp5, .int (bI (mLz M))])], [(rk1, ob 5 [.int (lT (mL M)), .int (lV (mL M)), .int (nI (lB (mL M))), .int (lBT (mL M)), .ref sp15, .ref la14])], w121, fz120, [(wd, ob 3 [.int (nI sz), .ref ma, .ref lb, .int nw, .int (Prod.snd B), .ref r0, .ref r1, .ref r2, .ref r3, .ref mo])], [(ma, qA (aC E 4) sz (idA as))], [(rn4, iA (aC E 0) 5 fn6)], [(rp5, iA (aC E 0) 5 fk7)], ws9, wb]) (st1 := []) rfl rfl ?_
  have h24 := MBL.mono h22 hB
  have h25 := MEL.mono h22 hE17
  have h26 := MTIn.mono h22 hsp19
  have h27 := KpIn.mono h22 hV12
  have hlen2 : List.length (ges16 ++ [en2 qe (lT (mL M)) (-1)]) = List.length (lE (mL M)) + 1 := by rw [List.length_append, List.length_singleton, hl_ges16]
  refine g_iconst hX (pc := 18) (v := 0) dX4_lead_18 (by decide) ?_
  refine g_eqi (nI 0) (nI_0.symm) ?_
  refine g_istore_n hX (pc := 19) (lv1 := [(3, .int (nI 0)), (2, .ref m), (0, .ref wd), (1, .int (nI (mN M)))]) dX4_lead_19 (by decide) rfl ?_
  have lp28 : ∀ (F1 : Nat) (i : Nat) (gn : Nat → Int32) (gk : Nat → Int32), sz - i < F1 → (i ≤ sz) → (∀ j, j < i → gn j = nI (lLast (mL M) + 1) ∧ gk j = 0) → (∀ j, i ≤ j → gn j = fn6 j ∧ gk j = fk7 j) → G E l X [[(m, ob 4 [.int 3, .ref rk1, .ref rv2, .ref rs3, .int (nI (mDn M)), .int (nI (mSu M)), .int (mVt M), .ref rn4, .ref rp5, .int (bI (mLz M))])], [(rk1, ob 5 [.int (lT (mL M)), .int (lV (mL M)), .int (nI (lB (mL M))), .int (lBT (mL M)), .ref sp15, .ref la14])], w121, fz120, [(wd, ob 3 [.int (nI sz), .ref ma, .ref lb, .int nw, .int (Prod.snd B), .ref r0, .ref r1, .ref r2, .ref r3, .ref mo])], [(ma, qA (aC E 4) sz (idA as))], [(rn4, iA (aC E 0) 5 gn)], [(rp5, iA (aC E 0) 5 gk)], ws9, wb] 2 (0 + (2 + max 10 (55 + 55 / 2))) 20 [(3, .int (nI i)), (2, .ref m), (0, .ref wd), (1, .int (nI (mN M)))] [] := by
    intro F1
    induction F1 with
    | zero =>
      intro i gn gk hF hi hg1 hg2
      exact absurd hF (Nat.not_lt_zero _)
    | succ F1 ih1 =>
      intro i gn gk hF hi hg1 hg2
      refine g_iload_n hX (pc := 20) dX4_lead_20 0 rfl ?_
      refine g_aload_n hX (pc := 21) dX4_lead_21 2 rfl ?_
      refine g_get hX (pc := 22) fcX4 4 rfl 0 (by decide) q1739 rfl (v := .int (nI sz)) rfl dX4_lead_22 ?_
      refine g_icmp_ge hX (pc := 25) (tgt := 54) dX4_lead_25 rfl (fun c29 => ?_) (fun c29 => ?_)
      · have d1 : i = sz := by
          have := (nI_leI (by omega) (by omega)).mp c29
          omega
        refine g_pk [0, 5, 5, 0, 0, 3] rfl ?_
        refine g_cs (cs1 := [[(m, ob 4 [.int 3, .ref rk1, .ref rv2, .ref rs3, .int (nI (mDn M)), .int (nI (mSu M)), .int (mVt M), .ref rn4, .ref rp5, .int (bI (mLz M))])], [(rn4, iA (aC E 0) 5 gn)], [(rp5, iA (aC E 0) 5 gk)], [(rk1, ob 5 [.int (lT (mL M)), .int (lV (mL M)), .int (nI (lB (mL M))), .int (lBT (mL M)), .ref sp15, .ref la14])], w121, ws9, fz120, [(wd, ob 3 [.int (nI sz), .ref ma, .ref lb, .int nw, .int (Prod.snd B), .ref r0, .ref r1, .ref r2, .ref r3, .ref mo])], [(ma, qA (aC E 4) sz (idA as))], wb]) rfl ?_
        refine g_fl (cs1 := [((m, ob 4 [.int 3, .ref rk1, .ref rv2, .ref rs3, .int (nI (mDn M)), .int (nI (mSu M)), .int (mVt M), .ref rn4, .ref rp5, .int (bI (mLz M))]) :: (rn4, iA (aC E 0) 5 gn) :: (rp5, iA (aC E 0) 5 gk) :: (((rk1, ob 5 [.int (lT (mL M)), .int (lV (mL M)), .int (nI (lB (mL M))), .int (lBT (mL M)), .ref sp15, .ref la14]) :: w121) ++ ws9)), fz120, [(wd, ob 3 [.int (nI sz), .ref ma, .ref lb, .int nw, .int (Prod.snd B), .ref r0, .ref r1, .ref r2, .ref r3, .ref mo])], [(ma, qA (aC E 4) sz (idA as))], wb]) (by simp only [List.flatten_cons, List.flatten_nil, List.cons_append, List.append_assoc, List.nil_append, List.append_nil]) ?_
        have hM30 : IsMM E fz120 sz m (mLead M) ((m, ob 4 [.int 3, .ref rk1, .ref rv2, .ref rs3, .int (nI (mDn M)), .int (nI (mSu M)), .int (mVt M), .ref rn4, .ref rp5, .int (bI (mLz M))]) :: (rn4, iA (aC E 0) 5 gn) :: (rp5, iA (aC E 0) 5 gk) :: (((rk1, ob 5 [.int (lT (mL M)), .int (lV (mL M)), .int (nI (lB (mL M))), .int (lBT (mL M)), .ref sp15, .ref la14]) :: w121) ++ ws9)) := ⟨_, _, _, _, _, _, _, _, _, (fun k hk => ⟨fun z => ⟨(hg1 k (by omega)).1, ((hg1 k (by omega)).2).trans nI_0.symm⟩, fun z => ⟨((hg2 k (by omega)).1).trans ((hn10 k hk).2 z).1, ((hg2 k (by omega)).2).trans ((hn10 k hk).2 z).2⟩⟩), ⟨_, _, _, _, h23, (by rw [List.map_append, hges18]; rfl), h26, rfl⟩, h27, hS13, rfl⟩
        generalize ((m, ob 4 [.int 3, .ref rk1, .ref rv2, .ref rs3, .int (nI (mDn M)), .int (nI (mSu M)), .int (mVt M), .ref rn4, .ref rp5, .int (bI (mLz M))]) :: (rn4, iA (aC E 0) 5 gn) :: (rp5, iA (aC E 0) 5 gk) :: (((rk1, ob 5 [.int (lT (mL M)), .int (lV (mL M)), .int (nI (lB (mL M))), .int (lBT (mL M)), .ref sp15, .ref la14]) :: w121) ++ ws9)) = wk31 at hM30 ⊢
        refine g_aload_n hX (pc := 54) dX4_lead_54 2 rfl ?_
        refine g_iload_n hX (pc := 55) dX4_lead_55 3 rfl ?_
        refine g_callV hX (pc := 56) kX4_beat (mt_W_beatK E l wd sz ma lb nw r0 r1 r2 r3 mo as m (mLead M) wk31 fz120 B wb (mN M) hM30 h24 (hm) (hk) (h5) (fun k hk => ⟨by show 1 ≤ lLast (mL M) + 1; omega, by show lLast (mL M) + 1 ≤ 1000; omega⟩) (by show lB (mL M) + (lE (mL M) ++ [_]).length ≤ 1000; rw [List.length_append, List.length_singleton]; omega) (hn) (rfl)) q1959 fcX4 (sp_mem (i := 2) rfl) [2, 2, 0, 1, 0] rfl rfl rfl (Nat.le_of_ble_eq_true rfl) (Nat.le_of_ble_eq_true rfl) (Nat.le_of_ble_eq_true rfl) (by omega) (by omega) dX4_lead_56 (fun v w1 hp => ?_)
        obtain ⟨fz132, w133, w234, h35, h36, h37, rfl, rfl⟩ := hp
        refine g_nrm (cs1 := [[(wd, ob 3 [.int (nI sz), .ref ma, .ref lb, .int nw, .int (Prod.snd (toAll (mMore (mLead M)) (mN (mLead M)) B sz)), .ref r0, .ref r1, .ref r2, .ref r3, .ref mo])], [(ma, qA (aC E 4) sz (idA as))], w133, w234, fz132]) (st1 := []) rfl rfl ?_
        have h38 := MBL.mono h35 h24
        have h39 := MEL.mono h35 h25
        have h40 := MTIn.mono h35 h26
        have h41 := KpIn.mono h35 h27
        have h42 := IsMM.mono h35 hM30
        refine g_vret hX (pc := 59) hR ?_ (by omega) (by omega) dX4_lead_59
        exact ⟨_, _, _, (Ext.tr h22 h35), h36, h37, rfl, rfl⟩
      · have d1 : i < sz := by
          have := mt (nI_leI (by omega) (by omega)).mpr c29
          omega
        refine g_aload_n hX (pc := 28) dX4_lead_28 1 rfl ?_
        refine g_getN hX (pc := 29) fcX5 0 rfl 7 (by decide) q1710 rfl (v := .ref rn4) rfl dX4_lead_29 ?_
        refine g_iload_n hX (pc := 32) dX4_lead_32 0 rfl ?_
        refine g_aload_n hX (pc := 33) dX4_lead_33 1 rfl ?_
        refine g_getN hX (pc := 34) fcX5 0 rfl 1 (by decide) q1692 rfl (v := .ref rk1) rfl dX4_lead_34 ?_
        refine g_callV hX (pc := 37) kX6_last (mt_Kp_last E l rk1 (lT (mL M)) (lV (mL M)) (lB (mL M)) (lBT (mL M)) sp15 la14 fz120 (ges16 ++ [en2 qe (lT (mL M)) (-1)]) w121 h23) q1919 fcX6 (sp_mem (i := 1) rfl) [1, 1] rfl rfl rfl (Nat.le_of_ble_eq_true rfl) (Nat.le_of_ble_eq_true rfl) (Nat.le_of_ble_eq_true rfl) (by omega) (by omega) dX4_lead_37 (fun v w1 hp => ?_)
        obtain ⟨rfl, rfl⟩ := hp
        refine g_nrm (cs1 := [[(rk1, ob 5 [.int (lT (mL M)), .int (lV (mL M)), .int (nI (lB (mL M))), .int (lBT (mL M)), .ref sp15, .ref la14])], w121, [(m, ob 4 [.int 3, .ref rk1, .ref rv2, .ref rs3, .int (nI (mDn M)), .int (nI (mSu M)), .int (mVt M), .ref rn4, .ref rp5, .int (bI (mLz M))])], fz120, [(wd, ob 3 [.int (nI sz), .ref ma, .ref lb, .int nw, .int (Prod.snd B), .ref r0, .ref r1, .ref r2, .ref r3, .ref mo])], [(ma, qA (aC E 4) sz (idA as))], [(rn4, iA (aC E 0) 5 gn)], [(rp5, iA (aC E 0) 5 gk)], ws9, wb]) (st1 := [.int (nI ((lB (mL M)) + List.length (ges16 ++ [en2 qe (lT (mL M)) (-1)]))), .int (nI i), .ref rn4]) rfl rfl ?_
        refine g_eqi (nI (lLast (mL M) + 1)) (by rw [hlen2]; rfl) ?_
        refine g_iast hX (pc := 40) (f1 := (upd gn i (nI (lLast (mL M) + 1)))) (cs1 := [[(rk1, ob 5 [.int (lT (mL M)), .int (lV (mL M)), .int (nI (lB (mL M))), .int (lBT (mL M)), .ref sp15, .ref la14])], w121, [(m, ob 4 [.int 3, .ref rk1, .ref rv2, .ref rs3, .int (nI (mDn M)), .int (nI (mSu M)), .int (mVt M), .ref rn4, .ref rp5, .int (bI (mLz M))])], fz120, [(wd, ob 3 [.int (nI sz), .ref ma, .ref lb, .int nw, .int (Prod.snd B), .ref r0, .ref r1, .ref r2, .ref r3, .ref mo])], [(ma, qA (aC E 4) sz (idA as))], [(rn4, iA (aC E 0) 5 (upd gn i (nI (lLast (mL M) + 1))))], [(rp5, iA (aC E 0) 5 gk)], ws9, wb]) 6 rfl (vp_in_nI (by omega) (by omega)) (by rw [nI_clamp (by omega)]) rfl dX4_lead_40 ?_
        refine g_aload_n hX (pc := 41) dX4_lead_41 1 rfl ?_
        refine g_getN hX (pc := 42) fcX5 2 rfl 8 (by decide) q1713 rfl (v := .ref rp5) rfl dX4_lead_42 ?_
        refine g_iload_n hX (pc := 45) dX4_lead_45 0 rfl ?_
        refine g_iconst hX (pc := 46) (v := 0) dX4_lead_46 (by decide) ?_
        refine g_iast hX (pc := 47) (f1 := (upd gk i 0)) (cs1 := [[(rk1, ob 5 [.int (lT (mL M)), .int (lV (mL M)), .int (nI (lB (mL M))), .int (lBT (mL M)), .ref sp15, .ref la14])], w121, [(m, ob 4 [.int 3, .ref rk1, .ref rv2, .ref rs3, .int (nI (mDn M)), .int (nI (mSu M)), .int (mVt M), .ref rn4, .ref rp5, .int (bI (mLz M))])], fz120, [(wd, ob 3 [.int (nI sz), .ref ma, .ref lb, .int nw, .int (Prod.snd B), .ref r0, .ref r1, .ref r2, .ref r3, .ref mo])], [(ma, qA (aC E 4) sz (idA as))], [(rn4, iA (aC E 0) 5 (upd gn i (nI (lLast (mL M) + 1))))], [(rp5, iA (aC E 0) 5 (upd gk i 0))], ws9, wb]) 7 rfl (vp_in_nI (by omega) (by omega)) (by rw [nI_clamp (by omega)]) rfl dX4_lead_47 ?_
        refine g_iinc hX (pc := 48) (v := nI (i + 1)) (lv1 := [(3, .int (nI (i + 1))), (2, .ref m), (0, .ref wd), (1, .int (nI (mN M)))]) dX4_lead_48 0 rfl (nI_1 _) (by decide) rfl ?_
        refine g_goto hX (pc := 51) (tgt := 20) dX4_lead_51 rfl ?_
        refine g_pk [2, 0, 0, 0, 0, 0, 0, 0, 0, 0] rfl ?_
        refine g_cs (cs1 := [[(m, ob 4 [.int 3, .ref rk1, .ref rv2, .ref rs3, .int (nI (mDn M)), .int (nI (mSu M)), .int (mVt M), .ref rn4, .ref rp5, .int (bI (mLz M))])], [(rk1, ob 5 [.int (lT (mL M)), .int (lV (mL M)), .int (nI (lB (mL M))), .int (lBT (mL M)), .ref sp15, .ref la14])], w121, fz120, [(wd, ob 3 [.int (nI sz), .ref ma, .ref lb, .int nw, .int (Prod.snd B), .ref r0, .ref r1, .ref r2, .ref r3, .ref mo])], [(ma, qA (aC E 4) sz (idA as))], [(rn4, iA (aC E 0) 5 (upd gn i (nI (lLast (mL M) + 1))))], [(rp5, iA (aC E 0) 5 (upd gk i 0))], ws9, wb]) rfl ?_
        refine g_widen (kc1 := 2) (ks1 := 0 + (2 + max 10 (55 + 55 / 2))) (by omega) (by omega) ?_
        exact ih1 (i + 1) (upd gn i (nI (lLast (mL M) + 1))) (upd gk i 0) (by omega) (by omega) (by
  intro j hj
  by_cases hji : j = i
  · subst hji
    exact ⟨pk_us, pk_us⟩
  · rw [pk_un hji, pk_un hji]
    exact hg1 j (by omega)) (by
  intro j hj
  rw [pk_un (by omega), pk_un (by omega)]
  exact hg2 j (by omega))
  refine g_widen (kc1 := 2) (ks1 := 0 + (2 + max 10 (55 + 55 / 2))) (by omega) (by omega) ?_
  exact lp28 ((sz - 0) + 1) 0 fn6 fk7 (Nat.lt_succ_self _) (Nat.zero_le _) (fun j hj => absurd hj (Nat.not_lt_zero _)) (fun j hj => ⟨rfl, rfl⟩)

theorem mt_W_leadK (E : EE) (l : Launch) (wd : Nat) (sz : Nat) (ma : Nat) (lb : Nat) (nw : Int32) (r0 : Nat) (r1 : Nat) (r2 : Nat) (r3 : Nat) (mo : Nat) (as : List Nat) (m : Nat) (M : PM) (wk : va_W) (fz : va_W) (B : PB) (wb : va_W) (k : Nat) (hM : IsMM E fz sz m M wk) (hB : MBL E fz lb (Prod.fst B) wb) (hm : (as[k]? = some m)) (hk : (k < sz)) (h5 : (sz ≤ 5)) (hl : (lLast (mL M) ≤ 55)) (hn : (List.length (Prod.fst B) ≤ 30)) (hmk : (mN M = k)) : Mt E l yX4_lead cX4_lead 4 none 9 (2 + 4 * sz) (84 + 68 * sz) 218 [.ref wd, .int (nI k)] [[(wd, ob 3 [.int (nI sz), .ref ma, .ref lb, .int nw, .int (Prod.snd B), .ref r0, .ref r1, .ref r2, .ref r3, .ref mo])], [(ma, qA (aC E 4) sz (idA as))], wk, wb, fz] (fun (v_ : Option Value) (cs_ : List va_W) => ∃ (fz1 : va_W) (w1 : va_W) (w2 : va_W), Ext E fz fz1 ∧ IsMM E fz1 sz m (mLead M) w1 ∧ MBL E fz1 lb (Prod.fst (beatAll sz (mLead M) B)) w2 ∧ v_ = none ∧ cs_ = [[(wd, ob 3 [.int (nI sz), .ref ma, .ref lb, .int nw, .int (Prod.snd (beatAll sz (mLead M) B)), .ref r0, .ref r1, .ref r2, .ref r3, .ref mo])], [(ma, qA (aC E 4) sz (idA as))], w1, w2, fz1]) := by
  subst hmk
  exact mt_W_lead E l wd sz ma lb nw r0 r1 r2 r3 mo as m M wk fz B wb hM hB hm hk h5 hl hn

/-- what is saved of a machine that is up and not lazy -/
def mSaveD (M : PM) : PM := if mLz M = false ∧ ¬ mR M = 0 then setV M (mL M) else M
theorem mSaveD_up {M : PM} (h : ¬ mR M = 0) : mSaveD M = mSave M := by
  unfold mSaveD mSave
  cases hz : mLz M with
  | false => rw [if_pos ⟨rfl, h⟩, if_neg (by decide)]
  | true => rw [if_neg (fun z => absurd z.1 (by decide)), if_pos rfl]

set_option maxHeartbeats 4000000 in
theorem mt_W_saves (E : EE) (l : Launch) (wd : Nat) (sz : Nat) (ma : Nat) (lb : Nat) (nw : Int32) (lo : Int32) (r0 : Nat) (r1 : Nat) (r2 : Nat) (r3 : Nat) (mo : Nat) (as : List Nat) (m : Nat) (M : PM) (wk : va_W) (fz : va_W) (hM : IsMM E fz sz m M wk) (hm : (as[mN M]? = some m)) (hk : (mN M < sz)) (h5 : (sz ≤ 5)) (h48 : (List.length (lE (mL M)) ≤ 33)) : Mt E l yX4_saves cX4_saves 3 none 6 11 76 147 [.ref wd, .int (nI (mN M))] [[(wd, ob 3 [.int (nI sz), .ref ma, .ref lb, .int nw, .int lo, .ref r0, .ref r1, .ref r2, .ref r3, .ref mo])], [(ma, qA (aC E 4) sz (idA as))], wk, fz] (fun (v_ : Option Value) (cs_ : List va_W) => ∃ (fz1 : va_W) (w1 : va_W), Ext E fz fz1 ∧ IsMM E fz1 sz m (mSaveD M) w1 ∧ v_ = none ∧ cs_ = [[(wd, ob 3 [.int (nI sz), .ref ma, .ref lb, .int nw, .int lo, .ref r0, .ref r1, .ref r2, .ref r3, .ref mo])], [(ma, qA (aC E 4) sz (idA as))], w1, fz1]) := by
  refine Mt.of (by decide) (Nat.le_of_ble_eq_true rfl) (fun X hX hR hin => ?_)
  refine g_lv1 (lv1 := [(0, .ref wd), (1, .int (nI (mN M)))]) rfl ?_
  refine g_aload_n hX (pc := 0) dX4_saves_0 0 rfl ?_
  refine g_get hX (pc := 1) fcX4 0 rfl 1 (by decide) q1741 rfl (v := .ref ma) rfl dX4_saves_1 ?_
  refine g_iload_n hX (pc := 4) dX4_saves_4 1 rfl ?_
  refine g_aald hX (pc := 5) (t0 := 4) rfl (sp_mem (i := 1) rfl) (y := m) (vp_in_nI (by omega) (by omega)) (by rw [nI_clamp (by omega)]; exact hm) dX4_saves_5 ?_
  refine g_astore_n hX (pc := 6) (lv1 := [(2, .ref m), (0, .ref wd), (1, .int (nI (mN M)))]) dX4_saves_6 (by decide) rfl ?_
  obtain ⟨rk1, rv2, rs3, rn4, rp5, fn6, fk7, wl8, ws9, hn10, hK11, hV12, hS13, rfl⟩ := hM
  obtain ⟨la14, sp15, ges16, wl8, hE17, hges18, hsp19, rfl⟩ := hK11
  refine g_fl (cs1 := [[(wd, ob 3 [.int (nI sz), .ref ma, .ref lb, .int nw, .int lo, .ref r0, .ref r1, .ref r2, .ref r3, .ref mo])], [(ma, qA (aC E 4) sz (idA as))], [(m, ob 4 [.int (mR M), .ref rk1, .ref rv2, .ref rs3, .int (nI (mDn M)), .int (nI (mSu M)), .int (mVt M), .ref rn4, .ref rp5, .int (bI (mLz M))])], [(rn4, iA (aC E 0) 5 fn6)], [(rp5, iA (aC E 0) 5 fk7)], [(rk1, ob 5 [.int (lT (mL M)), .int (lV (mL M)), .int (nI (lB (mL M))), .int (lBT (mL M)), .ref sp15, .ref la14])], wl8, ws9, fz]) (by simp only [List.flatten_cons, List.flatten_nil, List.cons_append, List.append_assoc, List.nil_append, List.append_nil]) ?_
  have hl_ges16 : List.length ges16 = List.length (lE (mL M)) := by rw [← hges18, List.length_map]
  refine g_aload_n hX (pc := 7) dX4_saves_7 0 rfl ?_
  refine g_getN hX (pc := 8) fcX5 2 rfl 9 (by decide) q1716 rfl (v := .int (bI (mLz M))) rfl dX4_saves_8 ?_
  refine g_if_ne hX (pc := 11) (tgt := 32) dX4_saves_11 rfl (fun c20_ => ?_) (fun c20_ => ?_)
  · have c20 := mt bI_0.mpr c20_
    refine g_pk [2, 2, 2, 2, 2, 2] rfl ?_
    refine g_cs (cs1 := [[(m, ob 4 [.int (mR M), .ref rk1, .ref rv2, .ref rs3, .int (nI (mDn M)), .int (nI (mSu M)), .int (mVt M), .ref rn4, .ref rp5, .int (bI (mLz M))])], [(rn4, iA (aC E 0) 5 fn6)], [(rp5, iA (aC E 0) 5 fk7)], [(rk1, ob 5 [.int (lT (mL M)), .int (lV (mL M)), .int (nI (lB (mL M))), .int (lBT (mL M)), .ref sp15, .ref la14])], wl8, ws9, [(wd, ob 3 [.int (nI sz), .ref ma, .ref lb, .int nw, .int lo, .ref r0, .ref r1, .ref r2, .ref r3, .ref mo])], [(ma, qA (aC E 4) sz (idA as))], fz]) rfl ?_
    refine g_fl (cs1 := [((m, ob 4 [.int (mR M), .ref rk1, .ref rv2, .ref rs3, .int (nI (mDn M)), .int (nI (mSu M)), .int (mVt M), .ref rn4, .ref rp5, .int (bI (mLz M))]) :: (rn4, iA (aC E 0) 5 fn6) :: (rp5, iA (aC E 0) 5 fk7) :: (((rk1, ob 5 [.int (lT (mL M)), .int (lV (mL M)), .int (nI (lB (mL M))), .int (lBT (mL M)), .ref sp15, .ref la14]) :: wl8) ++ ws9)), [(wd, ob 3 [.int (nI sz), .ref ma, .ref lb, .int nw, .int lo, .ref r0, .ref r1, .ref r2, .ref r3, .ref mo])], [(ma, qA (aC E 4) sz (idA as))], fz]) (by simp only [List.flatten_cons, List.flatten_nil, List.cons_append, List.append_assoc, List.nil_append, List.append_nil]) ?_
    have hM21 : IsMM E fz sz m M ((m, ob 4 [.int (mR M), .ref rk1, .ref rv2, .ref rs3, .int (nI (mDn M)), .int (nI (mSu M)), .int (mVt M), .ref rn4, .ref rp5, .int (bI (mLz M))]) :: (rn4, iA (aC E 0) 5 fn6) :: (rp5, iA (aC E 0) 5 fk7) :: (((rk1, ob 5 [.int (lT (mL M)), .int (lV (mL M)), .int (nI (lB (mL M))), .int (lBT (mL M)), .ref sp15, .ref la14]) :: wl8) ++ ws9)) := ⟨_, _, _, _, _, _, _, _, _, hn10, ⟨_, _, _, _, hE17, hges18, hsp19, rfl⟩, hV12, hS13, rfl⟩
    generalize ((m, ob 4 [.int (mR M), .ref rk1, .ref rv2, .ref rs3, .int (nI (mDn M)), .int (nI (mSu M)), .int (mVt M), .ref rn4, .ref rp5, .int (bI (mLz M))]) :: (rn4, iA (aC E 0) 5 fn6) :: (rp5, iA (aC E 0) 5 fk7) :: (((rk1, ob 5 [.int (lT (mL M)), .int (lV (mL M)), .int (nI (lB (mL M))), .int (lBT (mL M)), .ref sp15, .ref la14]) :: wl8) ++ ws9)) = wk22 at hM21 ⊢
    refine g_pk [1, 1, 0, 0] rfl ?_
    refine g_cs (cs1 := [[(wd, ob 3 [.int (nI sz), .ref ma, .ref lb, .int nw, .int lo, .ref r0, .ref r1, .ref r2, .ref r3, .ref mo])], [(ma, qA (aC E 4) sz (idA as))], wk22, fz]) rfl ?_
    refine g_vret hX (pc := 32) hR ?_ (by omega) (by omega) dX4_saves_32
    rw [show mSaveD M = M from if_neg (fun z => c20 z.1)]
    exact ⟨_, _, Ext.rfl', hM21, rfl, rfl⟩
  · have c20 := bI_0.mp c20_
    refine g_aload_n hX (pc := 14) dX4_saves_14 0 rfl ?_
    refine g_getN hX (pc := 15) fcX5 2 rfl 0 (by decide) q1689 rfl (v := .int (mR M)) rfl dX4_saves_15 ?_
    refine g_if_eq hX (pc := 18) (tgt := 32) dX4_saves_18 rfl (fun c23 => ?_) (fun c23 => ?_)
    · refine g_pk [2, 2, 2, 2, 2, 2] rfl ?_
      refine g_cs (cs1 := [[(m, ob 4 [.int (mR M), .ref rk1, .ref rv2, .ref rs3, .int (nI (mDn M)), .int (nI (mSu M)), .int (mVt M), .ref rn4, .ref rp5, .int (bI (mLz M))])], [(rn4, iA (aC E 0) 5 fn6)], [(rp5, iA (aC E 0) 5 fk7)], [(rk1, ob 5 [.int (lT (mL M)), .int (lV (mL M)), .int (nI (lB (mL M))), .int (lBT (mL M)), .ref sp15, .ref la14])], wl8, ws9, [(wd, ob 3 [.int (nI sz), .ref ma, .ref lb, .int nw, .int lo, .ref r0, .ref r1, .ref r2, .ref r3, .ref mo])], [(ma, qA (aC E 4) sz (idA as))], fz]) rfl ?_
      refine g_fl (cs1 := [((m, ob 4 [.int (mR M), .ref rk1, .ref rv2, .ref rs3, .int (nI (mDn M)), .int (nI (mSu M)), .int (mVt M), .ref rn4, .ref rp5, .int (bI (mLz M))]) :: (rn4, iA (aC E 0) 5 fn6) :: (rp5, iA (aC E 0) 5 fk7) :: (((rk1, ob 5 [.int (lT (mL M)), .int (lV (mL M)), .int (nI (lB (mL M))), .int (lBT (mL M)), .ref sp15, .ref la14]) :: wl8) ++ ws9)), [(wd, ob 3 [.int (nI sz), .ref ma, .ref lb, .int nw, .int lo, .ref r0, .ref r1, .ref r2, .ref r3, .ref mo])], [(ma, qA (aC E 4) sz (idA as))], fz]) (by simp only [List.flatten_cons, List.flatten_nil, List.cons_append, List.append_assoc, List.nil_append, List.append_nil]) ?_
      have hM24 : IsMM E fz sz m M ((m, ob 4 [.int (mR M), .ref rk1, .ref rv2, .ref rs3, .int (nI (mDn M)), .int (nI (mSu M)), .int (mVt M), .ref rn4, .ref rp5, .int (bI (mLz M))]) :: (rn4, iA (aC E 0) 5 fn6) :: (rp5, iA (aC E 0) 5 fk7) :: (((rk1, ob 5 [.int (lT (mL M)), .int (lV (mL M)), .int (nI (lB (mL M))), .int (lBT (mL M)), .ref sp15, .ref la14]) :: wl8) ++ ws9)) := ⟨_, _, _, _, _, _, _, _, _, hn10, ⟨_, _, _, _, hE17, hges18, hsp19, rfl⟩, hV12, hS13, rfl⟩
      generalize ((m, ob 4 [.int (mR M), .ref rk1, .ref rv2, .ref rs3, .int (nI (mDn M)), .int (nI (mSu M)), .int (mVt M), .ref rn4, .ref rp5, .int (bI (mLz M))]) :: (rn4, iA (aC E 0) 5 fn6) :: (rp5, iA (aC E 0) 5 fk7) :: (((rk1, ob 5 [.int (lT (mL M)), .int (lV (mL M)), .int (nI (lB (mL M))), .int (lBT (mL M)), .ref sp15, .ref la14]) :: wl8) ++ ws9)) = wk25 at hM24 ⊢
      refine g_pk [1, 1, 0, 0] rfl ?_
      refine g_cs (cs1 := [[(wd, ob 3 [.int (nI sz), .ref ma, .ref lb, .int nw, .int lo, .ref r0, .ref r1, .ref r2, .ref r3, .ref mo])], [(ma, qA (aC E 4) sz (idA as))], wk25, fz]) rfl ?_
      refine g_vret hX (pc := 32) hR ?_ (by omega) (by omega) dX4_saves_32
      rw [show mSaveD M = M from if_neg (fun z => z.2 c23)]
      exact ⟨_, _, Ext.rfl', hM24, rfl, rfl⟩
    · refine g_aload_n hX (pc := 21) dX4_saves_21 0 rfl ?_
      refine g_aload_n hX (pc := 22) dX4_saves_22 0 rfl ?_
      refine g_getN hX (pc := 23) fcX5 2 rfl 1 (by decide) q1692 rfl (v := .ref rk1) rfl dX4_saves_23 ?_
      refine g_callV hX (pc := 26) kX6_copy (mt_Kp_copy E l rk1 (lT (mL M)) (lV (mL M)) (lB (mL M)) (lBT (mL M)) sp15 la14 fz ges16 wl8 hE17) q1830 fcX6 (sp_mem (i := 5) rfl) [5, 5, 6] rfl rfl rfl (Nat.le_of_ble_eq_true rfl) (Nat.le_of_ble_eq_true rfl) (Nat.le_of_ble_eq_true rfl) (by omega) (by omega) dX4_saves_26 (fun v w1 hp => ?_)
      obtain ⟨q26, lb27, w128, h29, rfl, rfl⟩ := hp
      refine g_nrm (cs1 := [[(q26, ob 5 [.int (lT (mL M)), .int (lV (mL M)), .int (nI (lB (mL M))), .int (lBT (mL M)), .ref sp15, .ref lb27])], w128, [(rk1, ob 5 [.int (lT (mL M)), .int (lV (mL M)), .int (nI (lB (mL M))), .int (lBT (mL M)), .ref sp15, .ref la14])], wl8, fz, [(wd, ob 3 [.int (nI sz), .ref ma, .ref lb, .int nw, .int lo, .ref r0, .ref r1, .ref r2, .ref r3, .ref mo])], [(ma, qA (aC E 4) sz (idA as))], [(m, ob 4 [.int (mR M), .ref rk1, .ref rv2, .ref rs3, .int (nI (mDn M)), .int (nI (mSu M)), .int (mVt M), .ref rn4, .ref rp5, .int (bI (mLz M))])], [(rn4, iA (aC E 0) 5 fn6)], [(rp5, iA (aC E 0) 5 fk7)], ws9]) (st1 := [.ref q26, .ref m]) rfl rfl ?_
      refine g_putN hX (pc := 29) fcX5 7 (fs1 := [.int (mR M), .ref rk1, .ref q26, .ref rs3, .int (nI (mDn M)), .int (nI (mSu M)), .int (mVt M), .ref rn4, .ref rp5, .int (bI (mLz M))]) (cs1 := [[(q26, ob 5 [.int (lT (mL M)), .int (lV (mL M)), .int (nI (lB (mL M))), .int (lBT (mL M)), .ref sp15, .ref lb27])], w128, [(rk1, ob 5 [.int (lT (mL M)), .int (lV (mL M)), .int (nI (lB (mL M))), .int (lBT (mL M)), .ref sp15, .ref la14])], wl8, fz, [(wd, ob 3 [.int (nI sz), .ref ma, .ref lb, .int nw, .int lo, .ref r0, .ref r1, .ref r2, .ref r3, .ref mo])], [(ma, qA (aC E 4) sz (idA as))], [(m, ob 4 [.int (mR M), .ref rk1, .ref q26, .ref rs3, .int (nI (mDn M)), .int (nI (mSu M)), .int (mVt M), .ref rn4, .ref rp5, .int (bI (mLz M))])], [(rn4, iA (aC E 0) 5 fn6)], [(rp5, iA (aC E 0) 5 fk7)], ws9]) rfl 2 (by decide) q1695 rfl rfl rfl rfl (Nat.le_of_ble_eq_true rfl) rfl rfl dX4_saves_29 ?_
      refine g_pk [0, 0] rfl ?_
      refine g_cs (cs1 := [[(q26, ob 5 [.int (lT (mL M)), .int (lV (mL M)), .int (nI (lB (mL M))), .int (lBT (mL M)), .ref sp15, .ref lb27])], w128, [(rk1, ob 5 [.int (lT (mL M)), .int (lV (mL M)), .int (nI (lB (mL M))), .int (lBT (mL M)), .ref sp15, .ref la14])], wl8, fz, [(wd, ob 3 [.int (nI sz), .ref ma, .ref lb, .int nw, .int lo, .ref r0, .ref r1, .ref r2, .ref r3, .ref mo])], [(ma, qA (aC E 4) sz (idA as))], [(m, ob 4 [.int (mR M), .ref rk1, .ref q26, .ref rs3, .int (nI (mDn M)), .int (nI (mSu M)), .int (mVt M), .ref rn4, .ref rp5, .int (bI (mLz M))])], [(rn4, iA (aC E 0) 5 fn6)], [(rp5, iA (aC E 0) 5 fk7)], ws9]) rfl ?_
      refine g_fl (cs1 := [((q26, ob 5 [.int (lT (mL M)), .int (lV (mL M)), .int (nI (lB (mL M))), .int (lBT (mL M)), .ref sp15, .ref lb27]) :: (w128)), [(rk1, ob 5 [.int (lT (mL M)), .int (lV (mL M)), .int (nI (lB (mL M))), .int (lBT (mL M)), .ref sp15, .ref la14])], wl8, fz, [(wd, ob 3 [.int (nI sz), .ref ma, .ref lb, .int nw, .int lo, .ref r0, .ref r1, .ref r2, .ref r3, .ref mo])], [(ma, qA (aC E 4) sz (idA as))], [(m, ob 4 [.int (mR M), .ref rk1, .ref q26, .ref rs3, .int (nI (mDn M)), .int (nI (mSu M)), .int (mVt M), .ref rn4, .ref rp5, .int (bI (mLz M))])], [(rn4, iA (aC E 0) 5 fn6)], [(rp5, iA (aC E 0) 5 fk7)], ws9]) (by simp only [List.flatten_cons, List.flatten_nil, List.cons_append, List.append_assoc, List.nil_append, List.append_nil]) ?_
      have hL30 : IsKp E fz q26 (mL M) ((q26, ob 5 [.int (lT (mL M)), .int (lV (mL M)), .int (nI (lB (mL M))), .int (lBT (mL M)), .ref sp15, .ref lb27]) :: (w128)) := ⟨_, _, _, _, h29, hges18, hsp19, rfl⟩
      generalize ((q26, ob 5 [.int (lT (mL M)), .int (lV (mL M)), .int (nI (lB (mL M))), .int (lBT (mL M)), .ref sp15, .ref lb27]) :: (w128)) = ws31 at hL30 ⊢
      refine g_pk [0, 2] rfl ?_
      refine g_cs (cs1 := [ws31, fz, [(rk1, ob 5 [.int (lT (mL M)), .int (lV (mL M)), .int (nI (lB (mL M))), .int (lBT (mL M)), .ref sp15, .ref la14])], wl8, [(wd, ob 3 [.int (nI sz), .ref ma, .ref lb, .int nw, .int lo, .ref r0, .ref r1, .ref r2, .ref r3, .ref mo])], [(ma, qA (aC E 4) sz (idA as))], [(m, ob 4 [.int (mR M), .ref rk1, .ref q26, .ref rs3, .int (nI (mDn M)), .int (nI (mSu M)), .int (mVt M), .ref rn4, .ref rp5, .int (bI (mLz M))])], [(rn4, iA (aC E 0) 5 fn6)], [(rp5, iA (aC E 0) 5 fk7)], ws9]) rfl ?_
      refine g_fl (cs1 := [(ws31 ++ (fz)), [(rk1, ob 5 [.int (lT (mL M)), .int (lV (mL M)), .int (nI (lB (mL M))), .int (lBT (mL M)), .ref sp15, .ref la14])], wl8, [(wd, ob 3 [.int (nI sz), .ref ma, .ref lb, .int nw, .int lo, .ref r0, .ref r1, .ref r2, .ref r3, .ref mo])], [(ma, qA (aC E 4) sz (idA as))], [(m, ob 4 [.int (mR M), .ref rk1, .ref q26, .ref rs3, .int (nI (mDn M)), .int (nI (mSu M)), .int (mVt M), .ref rn4, .ref rp5, .int (bI (mLz M))])], [(rn4, iA (aC E 0) 5 fn6)], [(rp5, iA (aC E 0) 5 fk7)], ws9]) (by simp only [List.flatten_cons, List.flatten_nil, List.cons_append, List.append_assoc, List.nil_append, List.append_nil]) ?_
      have hx33 : Ext E fz (ws31 ++ (fz)) := fun q hq => (List.mem_append_right _ hq)
      have hm34 : ∀ q ∈ ws31, q ∈ (ws31 ++ (fz)) := fun q hq => (List.mem_append_left _ hq)
      generalize (ws31 ++ (fz)) = fz32 at hx33 hm34 ⊢
      have h35 := MEL.mono hx33 hE17
      have h36 := MTIn.mono hx33 hsp19
      have h37 := KpIn.mono hx33 hV12
      have h38 := IsKp.mono hx33 hL30
      have hKp39 : KpIn E fz32 q26 (mL M) := ⟨_, h38, hm34⟩
      refine g_pk [5, 5, 5, 1, 1, 3] rfl ?_
      refine g_cs (cs1 := [[(m, ob 4 [.int (mR M), .ref rk1, .ref q26, .ref rs3, .int (nI (mDn M)), .int (nI (mSu M)), .int (mVt M), .ref rn4, .ref rp5, .int (bI (mLz M))])], [(rn4, iA (aC E 0) 5 fn6)], [(rp5, iA (aC E 0) 5 fk7)], [(rk1, ob 5 [.int (lT (mL M)), .int (lV (mL M)), .int (nI (lB (mL M))), .int (lBT (mL M)), .ref sp15, .ref la14])], wl8, ws9, fz32, [(wd, ob 3 [.int (nI sz), .ref ma, .ref lb, .int nw, .int lo, .ref r0, .ref r1, .ref r2, .ref r3, .ref mo])], [(ma, qA (aC E 4) sz (idA as))]]) rfl ?_
      refine g_fl (cs1 := [((m, ob 4 [.int (mR M), .ref rk1, .ref q26, .ref rs3, .int (nI (mDn M)), .int (nI (mSu M)), .int (mVt M), .ref rn4, .ref rp5, .int (bI (mLz M))]) :: (rn4, iA (aC E 0) 5 fn6) :: (rp5, iA (aC E 0) 5 fk7) :: (((rk1, ob 5 [.int (lT (mL M)), .int (lV (mL M)), .int (nI (lB (mL M))), .int (lBT (mL M)), .ref sp15, .ref la14]) :: wl8) ++ ws9)), fz32, [(wd, ob 3 [.int (nI sz), .ref ma, .ref lb, .int nw, .int lo, .ref r0, .ref r1, .ref r2, .ref r3, .ref mo])], [(ma, qA (aC E 4) sz (idA as))]]) (by simp only [List.flatten_cons, List.flatten_nil, List.cons_append, List.append_assoc, List.nil_append, List.append_nil]) ?_
      have hM40 : IsMM E fz32 sz m (setV M (mL M)) ((m, ob 4 [.int (mR M), .ref rk1, .ref q26, .ref rs3, .int (nI (mDn M)), .int (nI (mSu M)), .int (mVt M), .ref rn4, .ref rp5, .int (bI (mLz M))]) :: (rn4, iA (aC E 0) 5 fn6) :: (rp5, iA (aC E 0) 5 fk7) :: (((rk1, ob 5 [.int (lT (mL M)), .int (lV (mL M)), .int (nI (lB (mL M))), .int (lBT (mL M)), .ref sp15, .ref la14]) :: wl8) ++ ws9)) := ⟨_, _, _, _, _, _, _, _, _, hn10, ⟨_, _, _, _, h35, hges18, h36, rfl⟩, hKp39, hS13, rfl⟩
      generalize ((m, ob 4 [.int (mR M), .ref rk1, .ref q26, .ref rs3, .int (nI (mDn M)), .int (nI (mSu M)), .int (mVt M), .ref rn4, .ref rp5, .int (bI (mLz M))]) :: (rn4, iA (aC E 0) 5 fn6) :: (rp5, iA (aC E 0) 5 fk7) :: (((rk1, ob 5 [.int (lT (mL M)), .int (lV (mL M)), .int (nI (lB (mL M))), .int (lBT (mL M)), .ref sp15, .ref la14]) :: wl8) ++ ws9)) = wk41 at hM40 ⊢
      refine g_pk [2, 2, 0, 0] rfl ?_
      refine g_cs (cs1 := [[(wd, ob 3 [.int (nI sz), .ref ma, .ref lb, .int nw, .int lo, .ref r0, .ref r1, .ref r2, .ref r3, .ref mo])], [(ma, qA (aC E 4) sz (idA as))], wk41, fz32]) rfl ?_
      refine g_vret hX (pc := 32) hR ?_ (by omega) (by omega) dX4_saves_32
      rw [show mSaveD M = setV M (mL M) from if_pos ⟨c20, c23⟩]
      exact ⟨_, _, hx33, hM40, rfl, rfl⟩

theorem mt_W_savesK (E : EE) (l : Launch) (wd : Nat) (sz : Nat) (ma : Nat) (lb : Nat) (nw : Int32) (lo : Int32) (r0 : Nat) (r1 : Nat) (r2 : Nat) (r3 : Nat) (mo : Nat) (as : List Nat) (m : Nat) (M : PM) (wk : va_W) (fz : va_W) (k : Nat) (hM : IsMM E fz sz m M wk) (hm : (as[k]? = some m)) (hk : (k < sz)) (h5 : (sz ≤ 5)) (h48 : (List.length (lE (mL M)) ≤ 33)) (hmk : (mN M = k)) : Mt E l yX4_saves cX4_saves 3 none 6 11 76 147 [.ref wd, .int (nI k)] [[(wd, ob 3 [.int (nI sz), .ref ma, .ref lb, .int nw, .int lo, .ref r0, .ref r1, .ref r2, .ref r3, .ref mo])], [(ma, qA (aC E 4) sz (idA as))], wk, fz] (fun (v_ : Option Value) (cs_ : List va_W) => ∃ (fz1 : va_W) (w1 : va_W), Ext E fz fz1 ∧ IsMM E fz1 sz m (mSaveD M) w1 ∧ v_ = none ∧ cs_ = [[(wd, ob 3 [.int (nI sz), .ref ma, .ref lb, .int nw, .int lo, .ref r0, .ref r1, .ref r2, .ref r3, .ref mo])], [(ma, qA (aC E 4) sz (idA as))], w1, fz1]) := by
  subst hmk
  exact mt_W_saves E l wd sz ma lb nw lo r0 r1 r2 r3 mo as m M wk fz hM hm hk h5 h48
