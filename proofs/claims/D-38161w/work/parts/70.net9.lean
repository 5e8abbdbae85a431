set_option maxHeartbeats 4000000 in
theorem mt_Net_differ (E : EE) (l : Launch) (m : Nat) (M : PM) (m2 : Nat) (M2 : PM) (fz : va_W) (wM : va_W) (hMI : MachIn E fz m M wM) (hMI2 : MachIn E fz m2 M2 wM) (hb1 : (mSu M ≤ 1000 ∧ lLast (mL M) ≤ 1000)) (hb2 : (mSu M2 ≤ 1000 ∧ lLast (mL M2) ≤ 1000)) : Mt E l yX2_differ cX2_differ 5 (some .boolean) 5 0 0 86 [.ref m, .ref m2] [wM, fz] (fun (v_ : Option Value) (cs_ : List va_W) => v_ = some (.int (bI (differB M M2))) ∧ cs_ = [wM, fz]) := by
  have hll1 : lLast (mL M) = lB (mL M) + (lE (mL M)).length := rfl
  have hll2 : lLast (mL M2) = lB (mL M2) + (lE (mL M2)).length := rfl
  have hdl : difLo M M2 ≤ 1000 := by unfold difLo; omega
  have hdl2 : difLast M M2 ≤ 1000 := by unfold difLast; omega
  have lLast_le_a : difLast M M2 ≤ lB (mL M) + (lE (mL M)).length := by unfold difLast; omega
  have lLast_le_b : difLast M M2 ≤ lB (mL M2) + (lE (mL M2)).length := by unfold difLast; omega
  refine Mt.of (by decide) (Nat.le_of_ble_eq_true rfl) (fun X hX hR hin => ?_)
  refine g_lv1 (lv1 := [(0, .ref m), (1, .ref m2)]) rfl ?_
  obtain ⟨rn1, rk2, rl3, rs4, rst5, la6, sp7, lb8, sp29, fn10, fk11, m012, arr13, m114, arr115, h116, h217, h318, h419, h520, h621, h722, hn23⟩ := hMI.peek
  obtain ⟨rn24, rk25, rl26, rs27, rst28, la29, sp30, lb31, sp232, fn33, fk34, m035, arr36, m137, arr138, h139, h240, h341, h442, h543, h644, h745, hn46⟩ := hMI2.peek
  refine g_iconst hX (pc := 0) (v := 0) dX2_differ_0 (by decide) ?_
  refine g_eqi (bI (difUp (mL M) (mL M2) (difLo M M2) 0)) (rfl) ?_
  refine g_istore_n hX (pc := 1) (lv1 := [(2, .int (bI (difUp (mL M) (mL M2) (difLo M M2) 0))), (0, .ref m), (1, .ref m2)]) dX2_differ_1 (by decide) rfl ?_
  refine g_aload_n hX (pc := 2) dX2_differ_2 1 rfl ?_
  refine g_getNm hX (pc := 3) fcX9 (sp_in 0 rfl h116) 8 (by decide) q945 rfl (v := .int (nI (mSu M))) rfl dX2_differ_3 ?_
  refine g_aload_n hX (pc := 6) dX2_differ_6 2 rfl ?_
  refine g_getNm hX (pc := 7) fcX9 (sp_in 0 rfl h139) 8 (by decide) q945 rfl (v := .int (nI (mSu M2))) rfl dX2_differ_7 ?_
  refine g_mmin hX (pc := 10) q232 (Nat.le_of_ble_eq_true rfl) (Nat.le_of_ble_eq_true rfl) (by omega) (by omega) q_m1min q_m2 q_m3min dX2_differ_10 ?_
  refine g_eqi (nI (min (mSu M) (mSu M2))) (al_min (by omega) (by omega)) ?_
  refine g_aload_n hX (pc := 13) dX2_differ_13 1 rfl ?_
  refine g_getNm hX (pc := 14) fcX9 (sp_in 0 rfl h116) 3 (by decide) q933 rfl (v := .ref rl3) rfl dX2_differ_14 ?_
  refine g_callV hX (pc := 17) kX10_last (mt_Log_lastM E l rl3 la6 (lT (mL M)) (lV (mL M)) (lB (mL M)) (lBT (mL M)) sp7 m012 arr13 (List.length (lE (mL M))) wM (h217) (h318)) q235 fcX10 (sp_in 0 rfl h217) [0] rfl rfl rfl (Nat.le_of_ble_eq_true rfl) (Nat.le_of_ble_eq_true rfl) (Nat.le_of_ble_eq_true rfl) (by omega) (by omega) dX2_differ_17 (fun v w1 hp => ?_)
  obtain ⟨rfl, rfl⟩ := hp
  refine g_nrm (cs1 := [wM, fz]) (st1 := [.int (nI ((lB (mL M)) + (List.length (lE (mL M))))), .int (nI (min (mSu M) (mSu M2)))]) rfl rfl ?_
  refine g_aload_n hX (pc := 20) dX2_differ_20 2 rfl ?_
  refine g_getNm hX (pc := 21) fcX9 (sp_in 0 rfl h139) 3 (by decide) q933 rfl (v := .ref rl26) rfl dX2_differ_21 ?_
  refine g_callV hX (pc := 24) kX10_last (mt_Log_lastM E l rl26 la29 (lT (mL M2)) (lV (mL M2)) (lB (mL M2)) (lBT (mL M2)) sp30 m035 arr36 (List.length (lE (mL M2))) wM (h240) (h341)) q235 fcX10 (sp_in 0 rfl h240) [0] rfl rfl rfl (Nat.le_of_ble_eq_true rfl) (Nat.le_of_ble_eq_true rfl) (Nat.le_of_ble_eq_true rfl) (by omega) (by omega) dX2_differ_24 (fun v w1 hp => ?_)
  obtain ⟨rfl, rfl⟩ := hp
  refine g_nrm (cs1 := [wM, fz]) (st1 := [.int (nI ((lB (mL M2)) + (List.length (lE (mL M2))))), .int (nI ((lB (mL M)) + (List.length (lE (mL M))))), .int (nI (min (mSu M) (mSu M2)))]) rfl rfl ?_
  refine g_mmin hX (pc := 27) q232 (Nat.le_of_ble_eq_true rfl) (Nat.le_of_ble_eq_true rfl) (by omega) (by omega) q_m1min q_m2 q_m3min dX2_differ_27 ?_
  refine g_eqi (nI (min (lLast (mL M)) (lLast (mL M2)))) (al_min (by omega) (by omega)) ?_
  refine g_mmin hX (pc := 30) q232 (Nat.le_of_ble_eq_true rfl) (Nat.le_of_ble_eq_true rfl) (by omega) (by omega) q_m1min q_m2 q_m3min dX2_differ_30 ?_
  refine g_eqi (nI (difLast M M2)) (al_min (by omega) (by omega)) ?_
  refine g_istore_n hX (pc := 33) (lv1 := [(3, .int (nI (difLast M M2))), (2, .int (bI (difUp (mL M) (mL M2) (difLo M M2) 0))), (0, .ref m), (1, .ref m2)]) dX2_differ_33 (by decide) rfl ?_
  refine g_aload_n hX (pc := 34) dX2_differ_34 2 rfl ?_
  refine g_getNm hX (pc := 35) fcX9 (sp_in 0 rfl h116) 3 (by decide) q933 rfl (v := .ref rl3) rfl dX2_differ_35 ?_
  refine g_getNm hX (pc := 38) fcX10 (sp_in 0 rfl h217) 3 (by decide) q852 rfl (v := .int (nI (lB (mL M)))) rfl dX2_differ_38 ?_
  refine g_aload_n hX (pc := 41) dX2_differ_41 3 rfl ?_
  refine g_getNm hX (pc := 42) fcX9 (sp_in 0 rfl h139) 3 (by decide) q933 rfl (v := .ref rl26) rfl dX2_differ_42 ?_
  refine g_getNm hX (pc := 45) fcX10 (sp_in 0 rfl h240) 3 (by decide) q852 rfl (v := .int (nI (lB (mL M2)))) rfl dX2_differ_45 ?_
  refine g_mmax hX (pc := 48) q241 (Nat.le_of_ble_eq_true rfl) (Nat.le_of_ble_eq_true rfl) (by omega) (by omega) q_m1max q_m2 q_m3max dX2_differ_48 ?_
  refine g_eqi (nI (difLo M M2)) (al_max (by omega) (by omega)) ?_
  refine g_iconst hX (pc := 51) (v := 1) dX2_differ_51 (by decide) ?_
  refine g_iadd hX (pc := 52) dX2_differ_52 ?_
  refine g_eqi (nI (difLo M M2 + 1 + 0)) (nI_1 _) ?_
  refine g_istore hX (pc := 53) (lv1 := [(4, .int (nI (difLo M M2 + 1 + 0))), (3, .int (nI (difLast M M2))), (2, .int (bI (difUp (mL M) (mL M2) (difLo M M2) 0))), (0, .ref m), (1, .ref m2)]) dX2_differ_53 (by decide) rfl ?_
  have lp48 : ∀ (F1 : Nat) (i : Nat), difLast M M2 - difLo M M2 - i < F1 → (i ≤ difLast M M2 - difLo M M2) → (i = 0 ∨ ¬ mR M = 0 ∧ ¬ mR M2 = 0) → G E l X [wM, fz] 0 0 55 [(0, .ref m), (1, .ref m2), (2, .int (bI (difUp (mL M) (mL M2) (difLo M M2) i))), (3, .int (nI (difLast M M2))), (4, .int (nI (difLo M M2 + 1 + i)))] [] := by
    intro F1
    induction F1 with
    | zero =>
      intro i hF hi hup
      exact absurd hF (Nat.not_lt_zero _)
    | succ F1 ih1 =>
      intro i hF hi hup
      refine g_iload hX (pc := 55) dX2_differ_55 4 rfl ?_
      refine g_iload_n hX (pc := 57) dX2_differ_57 3 rfl ?_
      refine g_icmp_gt hX (pc := 58) (tgt := 113) dX2_differ_58 rfl (fun c49 => ?_) (fun c49 => ?_)
      · have d1 : i = difLast M M2 - difLo M M2 := by
          have := (nI_ltI (by omega) (by omega)).mp c49
          omega
        have hdf : difUp (mL M) (mL M2) (difLo M M2) i = differB M M2 := by
          unfold differB
          rcases hup with rfl | hup
          · rw [← d1]; split <;> rfl
          · rw [if_pos hup, d1]
        refine g_iload_n hX (pc := 113) dX2_differ_113 2 rfl ?_
        refine g_zret hX (pc := 114) hR (bI_n _) ?_ (by omega) (by omega) dX2_differ_114
        exact ⟨by rw [hdf], rfl⟩
      · have d1 : difLo M M2 + 1 + i ≤ difLast M M2 := by
          have := mt (nI_ltI (by omega) (by omega)).mpr c49
          omega
        refine g_aload_n hX (pc := 61) dX2_differ_61 0 rfl ?_
        refine g_callV hX (pc := 62) kX9_isUp (mt_Machine_isUpI E l m M fz wM hMI) q244 fcX9 (sp_in 0 rfl h116) [0] rfl rfl rfl (Nat.le_of_ble_eq_true rfl) (Nat.le_of_ble_eq_true rfl) (Nat.le_of_ble_eq_true rfl) (by omega) (by omega) dX2_differ_62 (fun v w1 hp => ?_)
        obtain ⟨rfl, rfl⟩ := hp
        refine g_nrm (cs1 := [wM, fz]) (st1 := [.int (if mR M = 0 then 0 else 1)]) rfl rfl ?_
        refine g_if_eq hX (pc := 65) (tgt := 113) dX2_differ_65 rfl (fun c50_ => ?_) (fun c50_ => ?_)
        · have c50 := z01.mp c50_
          have hdf : difUp (mL M) (mL M2) (difLo M M2) i = differB M M2 := by
            unfold differB
            rcases hup with rfl | hup
            · rw [if_neg (fun z => z.1 c50)]; rfl
            · exact absurd c50 hup.1
          refine g_iload_n hX (pc := 113) dX2_differ_113 2 rfl ?_
          refine g_zret hX (pc := 114) hR (bI_n _) ?_ (by omega) (by omega) dX2_differ_114
          exact ⟨by rw [hdf], rfl⟩
        · have c50 := z01n.mp c50_
          refine g_aload_n hX (pc := 68) dX2_differ_68 1 rfl ?_
          refine g_callV hX (pc := 69) kX9_isUp (mt_Machine_isUpI E l m2 M2 fz wM hMI2) q244 fcX9 (sp_in 0 rfl h139) [0] rfl rfl rfl (Nat.le_of_ble_eq_true rfl) (Nat.le_of_ble_eq_true rfl) (Nat.le_of_ble_eq_true rfl) (by omega) (by omega) dX2_differ_69 (fun v w1 hp => ?_)
          obtain ⟨rfl, rfl⟩ := hp
          refine g_nrm (cs1 := [wM, fz]) (st1 := [.int (if mR M2 = 0 then 0 else 1)]) rfl rfl ?_
          refine g_if_eq hX (pc := 72) (tgt := 113) dX2_differ_72 rfl (fun c51_ => ?_) (fun c51_ => ?_)
          · have c51 := z01.mp c51_
            have hdf : difUp (mL M) (mL M2) (difLo M M2) i = differB M M2 := by
              unfold differB
              rcases hup with rfl | hup
              · rw [if_neg (fun z => z.2 c51)]; rfl
              · exact absurd c51 hup.2
            refine g_iload_n hX (pc := 113) dX2_differ_113 2 rfl ?_
            refine g_zret hX (pc := 114) hR (bI_n _) ?_ (by omega) (by omega) dX2_differ_114
            exact ⟨by rw [hdf], rfl⟩
          · have c51 := z01n.mp c51_
            obtain ⟨rn52, rk53, rl54, rs55, rst56, la57, sp58, m059, arr60, cap61, f62, y63, e64, h165, h266, h367, h468, hf69, hz70, he71, hn72, hc73⟩ := MachIn.ent hMI (i := difLo M M2 + 1 + i - lB (mL M) - 1) (by unfold difLo at *; have := lLast_le_a; omega)
            obtain ⟨rn74, rk75, rl76, rs77, rst78, la79, sp80, m081, arr82, cap83, f84, y85, e86, h187, h288, h389, h490, hf91, hz92, he93, hn94, hc95⟩ := MachIn.ent hMI2 (i := difLo M M2 + 1 + i - lB (mL M2) - 1) (by unfold difLo at *; have := lLast_le_b; omega)
            refine g_iload_n hX (pc := 75) dX2_differ_75 2 rfl ?_
            refine g_aload_n hX (pc := 76) dX2_differ_76 0 rfl ?_
            refine g_getNm hX (pc := 77) fcX9 (sp_in 0 rfl h165) 3 (by decide) q933 rfl (v := .ref rl54) rfl dX2_differ_77 ?_
            refine g_iload hX (pc := 80) dX2_differ_80 4 rfl ?_
            refine g_callV hX (pc := 82) kX10_at (mt_Log_atM E l rl54 la57 (lT (mL M)) (lV (mL M)) (lB (mL M)) (lBT (mL M)) sp58 m059 arr60 (List.length (lE (mL M))) cap61 f62 (difLo M M2 + 1 + i) y63 e64 wM fz (h266) (h367) (h468) (by unfold difLo at *; omega) (by omega) (by unfold difLo at *; have := lLast_le_a; omega) (hn72) (hc73) (hf69) (hz70)) q248 fcX10 (sp_in 0 rfl h266) [0, 0] rfl rfl rfl (Nat.le_of_ble_eq_true rfl) (Nat.le_of_ble_eq_true rfl) (Nat.le_of_ble_eq_true rfl) (by omega) (by omega) dX2_differ_82 (fun v w1 hp => ?_)
            obtain ⟨rfl, rfl⟩ := hp
            refine g_nrm (cs1 := [wM, fz]) (st1 := [.ref y63, .int (bI (difUp (mL M) (mL M2) (difLo M M2) i))]) rfl rfl ?_
            refine g_aload_n hX (pc := 85) dX2_differ_85 1 rfl ?_
            refine g_getNm hX (pc := 86) fcX9 (sp_in 0 rfl h187) 3 (by decide) q933 rfl (v := .ref rl76) rfl dX2_differ_86 ?_
            refine g_iload hX (pc := 89) dX2_differ_89 4 rfl ?_
            refine g_callV hX (pc := 91) kX10_at (mt_Log_atM E l rl76 la79 (lT (mL M2)) (lV (mL M2)) (lB (mL M2)) (lBT (mL M2)) sp80 m081 arr82 (List.length (lE (mL M2))) cap83 f84 (difLo M M2 + 1 + i) y85 e86 wM fz (h288) (h389) (h490) (by unfold difLo at *; omega) (by omega) (by unfold difLo at *; have := lLast_le_b; omega) (hn94) (hc95) (hf91) (hz92)) q248 fcX10 (sp_in 0 rfl h288) [0, 0] rfl rfl rfl (Nat.le_of_ble_eq_true rfl) (Nat.le_of_ble_eq_true rfl) (Nat.le_of_ble_eq_true rfl) (by omega) (by omega) dX2_differ_91 (fun v w1 hp => ?_)
            obtain ⟨rfl, rfl⟩ := hp
            refine g_nrm (cs1 := [wM, fz]) (st1 := [.ref y85, .ref y63, .int (bI (difUp (mL M) (mL M2) (difLo M M2) i))]) rfl rfl ?_
            refine g_callV hX (pc := 94) kX14_isSame (mt_Entry_isSame E l y63 e64.1 e64.2 y85 e86.1 e86.2 fz (hz70) (hz92)) q255 fcX14 (sp_in 1 rfl hz70) [1] rfl rfl rfl (Nat.le_of_ble_eq_true rfl) (Nat.le_of_ble_eq_true rfl) (Nat.le_of_ble_eq_true rfl) (by omega) (by omega) dX2_differ_94 (fun v w1 hp => ?_)
            obtain ⟨rfl, rfl⟩ := hp
            refine g_nrm (cs1 := [fz, wM]) (st1 := [.int (if e64.1 = e86.1 ∧ e64.2 = e86.2 then 1 else 0), .int (bI (difUp (mL M) (mL M2) (difLo M M2) i))]) rfl rfl ?_
            refine g_val (v := if e64.1 = e86.1 ∧ e64.2 = e86.2 then 0 else 1) (pcJ := 105) (st1 := [.int (bI (difUp (mL M) (mL M2) (difLo M M2) i))]) (fun hj96 => ?_) ?_
            · refine g_if_ne hX (pc := 97) (tgt := 104) dX2_differ_97 rfl (fun c97_ => ?_) (fun c97_ => ?_)
              · have c97 := z10n.mp c97_
                refine g_iconst hX (pc := 104) (v := 0) dX2_differ_104 (by decide) ?_
                exact hj96 _ (by rw [if_pos c97])
              · have c97 := z10.mp c97_
                refine g_iconst hX (pc := 100) (v := 1) dX2_differ_100 (by decide) ?_
                refine g_goto hX (pc := 101) (tgt := 105) dX2_differ_101 rfl ?_
                exact hj96 _ (by rw [if_neg c97])
            refine g_ior hX (pc := 105) dX2_differ_105 ?_
            refine g_eqi (bI (difUp (mL M) (mL M2) (difLo M M2) (i + 1))) (difUp_s he71 he93) ?_
            refine g_istore_n hX (pc := 106) (lv1 := [(2, .int (bI (difUp (mL M) (mL M2) (difLo M M2) (i + 1)))), (0, .ref m), (1, .ref m2), (3, .int (nI (difLast M M2))), (4, .int (nI (difLo M M2 + 1 + i)))]) dX2_differ_106 (by decide) rfl ?_
            refine g_iinc hX (pc := 107) (v := nI ((difLo M M2 + 1 + i) + 1)) (lv1 := [(4, .int (nI ((difLo M M2 + 1 + i) + 1))), (2, .int (bI (difUp (mL M) (mL M2) (difLo M M2) (i + 1)))), (0, .ref m), (1, .ref m2), (3, .int (nI (difLast M M2)))]) dX2_differ_107 4 rfl (nI_1 _) (by decide) rfl ?_
            refine g_goto hX (pc := 110) (tgt := 55) dX2_differ_110 rfl ?_
            refine g_pk [1, 0] rfl ?_
            refine g_cs (cs1 := [wM, fz]) rfl ?_
            refine g_lv (lv1 := [(0, .ref m), (1, .ref m2), (2, .int (bI (difUp (mL M) (mL M2) (difLo M M2) (i + 1)))), (3, .int (nI (difLast M M2))), (4, .int (nI ((difLo M M2 + 1 + i) + 1)))]) [2, 3, 1, 4, 0] rfl ?_
            refine g_widen (kc1 := 0) (ks1 := 0) (by omega) (by omega) ?_
            exact ih1 (i + 1) (by omega) (by omega) (Or.inr ⟨c50, c51⟩)
  refine g_lv (lv1 := [(0, .ref m), (1, .ref m2), (2, .int (bI (difUp (mL M) (mL M2) (difLo M M2) 0))), (3, .int (nI (difLast M M2))), (4, .int (nI (difLo M M2 + 1 + 0)))]) [3, 4, 2, 1, 0] rfl ?_
  refine g_widen (kc1 := 0) (ks1 := 0) (by omega) (by omega) ?_
  exact lp48 ((difLast M M2 - difLo M M2 - 0) + 1) 0 (Nat.lt_succ_self _) (Nat.zero_le _) (Or.inl rfl)
