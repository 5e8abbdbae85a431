set_option maxHeartbeats 4000000 in
theorem mt_Net_areTwo (E : EE) (l : Launch) (m : Nat) (M : PM) (m2 : Nat) (M2 : PM) (fz : va_W) (wM : va_W) (hMI : MachIn E fz m M wM) (hMI2 : MachIn E fz m2 M2 wM) : Mt E l yX2_areTwo cX2_areTwo 2 (some .boolean) 2 0 0 21 [.ref m, .ref m2] [wM] (fun (v_ : Option Value) (cs_ : List va_W) => v_ = some (.int (bI (areTwoB M M2))) ∧ cs_ = [wM]) := by
  refine Mt.of (by decide) (Nat.le_of_ble_eq_true rfl) (fun X hX hR hin => ?_)
  refine g_lv1 (lv1 := [(0, .ref m), (1, .ref m2)]) rfl ?_
  obtain ⟨rn1, rk2, rl3, rs4, rst5, la6, sp7, lb8, sp29, fn10, fk11, m012, arr13, m114, arr115, h116, h217, h318, h419, h520, h621, h722, hn23⟩ := hMI.peek
  obtain ⟨rn24, rk25, rl26, rs27, rst28, la29, sp30, lb31, sp232, fn33, fk34, m035, arr36, m137, arr138, h139, h240, h341, h442, h543, h644, h745, hn46⟩ := hMI2.peek
  refine g_aload_n hX (pc := 0) dX2_areTwo_0 0 rfl ?_
  refine g_callV hX (pc := 1) kX9_isLeader (mt_Machine_isLeaderI E l m M fz wM hMI) q225 fcX9 (sp_in 0 rfl h116) [0] rfl rfl rfl (Nat.le_of_ble_eq_true rfl) (Nat.le_of_ble_eq_true rfl) (Nat.le_of_ble_eq_true rfl) (Nat.le_of_ble_eq_true rfl) (Nat.le_of_ble_eq_true rfl) dX2_areTwo_1 (fun v w1 hp => ?_)
  obtain ⟨rfl, rfl⟩ := hp
  refine g_nrm (cs1 := [wM]) (st1 := [.int (if mR M = 3 then 1 else 0)]) rfl rfl ?_
  refine g_if_eq hX (pc := 4) (tgt := 35) dX2_areTwo_4 rfl (fun c47_ => ?_) (fun c47_ => ?_)
  · have c47 := z10.mp c47_
    refine g_iconst hX (pc := 35) (v := 0) dX2_areTwo_35 (by decide) ?_
    refine g_zret hX (pc := 36) hR rfl ?_ (Nat.le_of_ble_eq_true rfl) (Nat.le_of_ble_eq_true rfl) dX2_areTwo_36
    refine ⟨?_, rfl⟩
    unfold areTwoB bI
    by_cases k1 : mR M = 3 <;> by_cases k2 : mR M2 = 3 <;> simp_all
  · have c47 := z10n.mp c47_
    refine g_aload_n hX (pc := 7) dX2_areTwo_7 1 rfl ?_
    refine g_callV hX (pc := 8) kX9_isLeader (mt_Machine_isLeaderI E l m2 M2 fz wM hMI2) q225 fcX9 (sp_in 0 rfl h139) [0] rfl rfl rfl (Nat.le_of_ble_eq_true rfl) (Nat.le_of_ble_eq_true rfl) (Nat.le_of_ble_eq_true rfl) (Nat.le_of_ble_eq_true rfl) (Nat.le_of_ble_eq_true rfl) dX2_areTwo_8 (fun v w1 hp => ?_)
    obtain ⟨rfl, rfl⟩ := hp
    refine g_nrm (cs1 := [wM]) (st1 := [.int (if mR M2 = 3 then 1 else 0)]) rfl rfl ?_
    refine g_val (v := if mR M2 = 3 then (if (lT (mL M)) = (lT (mL M2)) then 1 else 0) else 0) (pcJ := 36) (st1 := []) (fun hj48 => ?_) ?_
    · refine g_if_eq hX (pc := 11) (tgt := 35) dX2_areTwo_11 rfl (fun c49_ => ?_) (fun c49_ => ?_)
      · have c49 := z10.mp c49_
        refine g_iconst hX (pc := 35) (v := 0) dX2_areTwo_35 (by decide) ?_
        exact hj48 _ (by rw [if_neg c49])
      · have c49 := z10n.mp c49_
        refine g_aload_n hX (pc := 14) dX2_areTwo_14 0 rfl ?_
        refine g_getNm hX (pc := 15) fcX9 (sp_in 0 rfl h116) 3 (by decide) q933 rfl (v := .ref rl3) rfl dX2_areTwo_15 ?_
        refine g_getNm hX (pc := 18) fcX10 (sp_in 0 rfl h217) 1 (by decide) q844 rfl (v := .int (lT (mL M))) rfl dX2_areTwo_18 ?_
        refine g_aload_n hX (pc := 21) dX2_areTwo_21 1 rfl ?_
        refine g_getNm hX (pc := 22) fcX9 (sp_in 0 rfl h139) 3 (by decide) q933 rfl (v := .ref rl26) rfl dX2_areTwo_22 ?_
        refine g_getNm hX (pc := 25) fcX10 (sp_in 0 rfl h240) 1 (by decide) q844 rfl (v := .int (lT (mL M2))) rfl dX2_areTwo_25 ?_
        refine g_icmp_ne hX (pc := 28) (tgt := 35) dX2_areTwo_28 rfl (fun c50 => ?_) (fun c50 => ?_)
        · refine g_iconst hX (pc := 35) (v := 0) dX2_areTwo_35 (by decide) ?_
          exact hj48 _ (by rw [if_pos c49, if_neg c50])
        · refine g_iconst hX (pc := 31) (v := 1) dX2_areTwo_31 (by decide) ?_
          refine g_goto hX (pc := 32) (tgt := 36) dX2_areTwo_32 rfl ?_
          exact hj48 _ (by rw [if_pos c49, if_pos c50])
    refine g_zret hX (pc := 36) hR (by (repeat' split) <;> rfl) ?_ (Nat.le_of_ble_eq_true rfl) (Nat.le_of_ble_eq_true rfl) dX2_areTwo_36
    refine ⟨?_, rfl⟩
    unfold areTwoB bI
    by_cases k1 : mR M = 3 <;> by_cases k2 : mR M2 = 3 <;> simp_all

set_option maxHeartbeats 4000000 in
theorem mt_Net_isFencedTwice (E : EE) (l : Launch) (a : Nat) (r : PR) (a2 : Nat) (r2 : PR) (w : va_W) (hm : ((a, rqC E r) ∈ w)) (hm2 : ((a2, rqC E r2) ∈ w)) (hk1 : (rK r < 6 ∧ rC r < 4 ∧ rY r < 4)) (hk2 : (rK r2 < 6 ∧ rC r2 < 4 ∧ rY r2 < 4)) : Mt E l yX2_isFencedTwice cX2_isFencedTwice 3 (some .boolean) 2 0 0 21 [.ref a, .ref a2] [w] (fun (v_ : Option Value) (cs_ : List va_W) => v_ = some (.int (bI (fencedB r r2))) ∧ cs_ = [w]) := by
  refine Mt.of (by decide) (Nat.le_of_ble_eq_true rfl) (fun X hX hR hin => ?_)
  refine g_lv1 (lv1 := [(0, .ref a), (1, .ref a2)]) rfl ?_
  refine g_aload_n hX (pc := 0) dX2_isFencedTwice_0 0 rfl ?_
  refine g_getNm hX (pc := 1) fcX12 (sp_in 0 rfl hm) 1 (by decide) q995 rfl (v := .ref (aK E (rK r))) rfl dX2_isFencedTwice_1 ?_
  refine g_gets hX (pc := 4) (v := .ref (aK E 3)) ((cx_gs hX).1.1 3 (by decide)).1 q730 rfl dX2_isFencedTwice_4 ?_
  refine g_val (v := if (aK E (rK r)) = (aK E 3) then (if (aK E (rK r2)) = (aK E 3) then (if (nI (rY r)) = (nI (rY r2)) then (if (nI (rC r)) = (nI (rC r2)) then 0 else 1) else 0) else 0) else 0) (pcJ := 47) (st1 := []) (fun hj1 => ?_) ?_
  · refine g_acmp_ner hX (pc := 7) (tgt := 46) dX2_isFencedTwice_7 rfl (fun c2 => ?_) (fun c2 => ?_)
    · refine g_iconst hX (pc := 46) (v := 0) dX2_isFencedTwice_46 (by decide) ?_
      exact hj1 _ (by rw [if_neg c2])
    · refine g_aload_n hX (pc := 10) dX2_isFencedTwice_10 1 rfl ?_
      refine g_getNm hX (pc := 11) fcX12 (sp_in 0 rfl hm2) 1 (by decide) q995 rfl (v := .ref (aK E (rK r2))) rfl dX2_isFencedTwice_11 ?_
      refine g_gets hX (pc := 14) (v := .ref (aK E 3)) ((cx_gs hX).1.1 3 (by decide)).1 q730 rfl dX2_isFencedTwice_14 ?_
      refine g_acmp_ner hX (pc := 17) (tgt := 46) dX2_isFencedTwice_17 rfl (fun c3 => ?_) (fun c3 => ?_)
      · refine g_iconst hX (pc := 46) (v := 0) dX2_isFencedTwice_46 (by decide) ?_
        exact hj1 _ (by rw [if_pos c2, if_neg c3])
      · refine g_aload_n hX (pc := 20) dX2_isFencedTwice_20 0 rfl ?_
        refine g_getNm hX (pc := 21) fcX12 (sp_in 0 rfl hm) 2 (by decide) q999 rfl (v := .int (nI (rY r))) rfl dX2_isFencedTwice_21 ?_
        refine g_aload_n hX (pc := 24) dX2_isFencedTwice_24 1 rfl ?_
        refine g_getNm hX (pc := 25) fcX12 (sp_in 0 rfl hm2) 2 (by decide) q999 rfl (v := .int (nI (rY r2))) rfl dX2_isFencedTwice_25 ?_
        refine g_icmp_ne hX (pc := 28) (tgt := 46) dX2_isFencedTwice_28 rfl (fun c4 => ?_) (fun c4 => ?_)
        · refine g_iconst hX (pc := 46) (v := 0) dX2_isFencedTwice_46 (by decide) ?_
          exact hj1 _ (by rw [if_pos c2, if_pos c3, if_neg c4])
        · refine g_aload_n hX (pc := 31) dX2_isFencedTwice_31 0 rfl ?_
          refine g_getNm hX (pc := 32) fcX12 (sp_in 0 rfl hm) 0 (by decide) q990 rfl (v := .int (nI (rC r))) rfl dX2_isFencedTwice_32 ?_
          refine g_aload_n hX (pc := 35) dX2_isFencedTwice_35 1 rfl ?_
          refine g_getNm hX (pc := 36) fcX12 (sp_in 0 rfl hm2) 0 (by decide) q990 rfl (v := .int (nI (rC r2))) rfl dX2_isFencedTwice_36 ?_
          refine g_icmp_eq hX (pc := 39) (tgt := 46) dX2_isFencedTwice_39 rfl (fun c5 => ?_) (fun c5 => ?_)
          · refine g_iconst hX (pc := 46) (v := 0) dX2_isFencedTwice_46 (by decide) ?_
            exact hj1 _ (by rw [if_pos c2, if_pos c3, if_pos c4, if_pos c5])
          · refine g_iconst hX (pc := 42) (v := 1) dX2_isFencedTwice_42 (by decide) ?_
            refine g_goto hX (pc := 43) (tgt := 47) dX2_isFencedTwice_43 rfl ?_
            exact hj1 _ (by rw [if_pos c2, if_pos c3, if_pos c4, if_neg c5])
  refine g_eqi (bI (decide (rK r = 3 ∧ rK r2 = 3 ∧ rY r = rY r2 ∧ ¬ rC r = rC r2))) (by simp only [aK_inj hX hk1.1 (show 3 < 6 by omega), aK_inj hX hk2.1 (show 3 < 6 by omega), nI_eq (a := rY r) (b := rY r2) (by omega) (by omega), nI_eq (a := rC r) (b := rC r2) (by omega) (by omega)]; unfold bI; by_cases c1 : rK r = 3 <;> by_cases c2 : rK r2 = 3 <;> by_cases c3 : rY r = rY r2 <;> by_cases c4 : rC r = rC r2 <;> simp [c1, c2, c3, c4]) ?_
  refine g_istore_n hX (pc := 47) (lv1 := [(2, .int (bI (decide (rK r = 3 ∧ rK r2 = 3 ∧ rY r = rY r2 ∧ ¬ rC r = rC r2)))), (0, .ref a), (1, .ref a2)]) dX2_isFencedTwice_47 (by decide) rfl ?_
  refine g_iload_n hX (pc := 48) dX2_isFencedTwice_48 0 rfl ?_
  refine g_if_eq hX (pc := 49) (tgt := 88) dX2_isFencedTwice_49 rfl (fun c6_ => ?_) (fun c6_ => ?_)
  · have c6 := bI_0.mp c6_
    refine g_iconst hX (pc := 88) (v := 0) dX2_isFencedTwice_88 (by decide) ?_
    refine g_zret hX (pc := 89) hR rfl ?_ (Nat.le_of_ble_eq_true rfl) (Nat.le_of_ble_eq_true rfl) dX2_isFencedTwice_89
    refine ⟨?_, rfl⟩
    unfold fencedB
    unfold bI
    by_cases k1 : rAns r2 = (-1)
    · simp_all
    by_cases k2 : 0 < rRes r
    · have k3 : ¬ rRes r ≤ 0 := Int32.not_le.mpr k2
      simp [k2, k3, *]
    · have k3 : rRes r ≤ 0 := Int32.not_lt.mp k2
      simp [k2, k3, *]
  · have c6 := mt bI_0.mpr c6_
    refine g_aload_n hX (pc := 52) dX2_isFencedTwice_52 1 rfl ?_
    refine g_callV hX (pc := 53) kX12_isAnswered (mt_Request_isAnsweredM E l a r w (hm)) q732 fcX12 (sp_in 0 rfl hm) [0] rfl rfl rfl (Nat.le_of_ble_eq_true rfl) (Nat.le_of_ble_eq_true rfl) (Nat.le_of_ble_eq_true rfl) (Nat.le_of_ble_eq_true rfl) (Nat.le_of_ble_eq_true rfl) dX2_isFencedTwice_53 (fun v w1 hp => ?_)
    obtain ⟨rfl, rfl⟩ := hp
    refine g_nrm (cs1 := [w]) (st1 := [.int (if rAns r = (-1) then 0 else 1)]) rfl rfl ?_
    refine g_if_eq hX (pc := 56) (tgt := 88) dX2_isFencedTwice_56 rfl (fun c7_ => ?_) (fun c7_ => ?_)
    · have c7 := z01.mp c7_
      refine g_iconst hX (pc := 88) (v := 0) dX2_isFencedTwice_88 (by decide) ?_
      refine g_zret hX (pc := 89) hR rfl ?_ (Nat.le_of_ble_eq_true rfl) (Nat.le_of_ble_eq_true rfl) dX2_isFencedTwice_89
      refine ⟨?_, rfl⟩
      unfold fencedB
      unfold bI
      by_cases k1 : rAns r2 = (-1)
      · simp_all
      by_cases k2 : 0 < rRes r
      · have k3 : ¬ rRes r ≤ 0 := Int32.not_le.mpr k2
        simp [k2, k3, *]
      · have k3 : rRes r ≤ 0 := Int32.not_lt.mp k2
        simp [k2, k3, *]
    · have c7 := z01n.mp c7_
      refine g_aload_n hX (pc := 59) dX2_isFencedTwice_59 2 rfl ?_
      refine g_callV hX (pc := 60) kX12_isAnswered (mt_Request_isAnsweredM E l a2 r2 w (hm2)) q732 fcX12 (sp_in 0 rfl hm2) [0] rfl rfl rfl (Nat.le_of_ble_eq_true rfl) (Nat.le_of_ble_eq_true rfl) (Nat.le_of_ble_eq_true rfl) (Nat.le_of_ble_eq_true rfl) (Nat.le_of_ble_eq_true rfl) dX2_isFencedTwice_60 (fun v w1 hp => ?_)
      obtain ⟨rfl, rfl⟩ := hp
      refine g_nrm (cs1 := [w]) (st1 := [.int (if rAns r2 = (-1) then 0 else 1)]) rfl rfl ?_
      refine g_val (v := if rAns r2 = (-1) then 0 else (if (rRes r) ≤ 0 then 0 else (if (rRes r) = (rRes r2) then 1 else 0))) (pcJ := 89) (st1 := []) (fun hj8 => ?_) ?_
      · refine g_if_eq hX (pc := 63) (tgt := 88) dX2_isFencedTwice_63 rfl (fun c9_ => ?_) (fun c9_ => ?_)
        · have c9 := z01.mp c9_
          refine g_iconst hX (pc := 88) (v := 0) dX2_isFencedTwice_88 (by decide) ?_
          exact hj8 _ (by rw [if_pos c9])
        · have c9 := z01n.mp c9_
          refine g_aload_n hX (pc := 66) dX2_isFencedTwice_66 1 rfl ?_
          refine g_getNm hX (pc := 67) fcX12 (sp_in 0 rfl hm) 5 (by decide) q1006 rfl (v := .int (rRes r)) rfl dX2_isFencedTwice_67 ?_
          refine g_if_le hX (pc := 70) (tgt := 88) dX2_isFencedTwice_70 rfl (fun c10 => ?_) (fun c10 => ?_)
          · refine g_iconst hX (pc := 88) (v := 0) dX2_isFencedTwice_88 (by decide) ?_
            exact hj8 _ (by rw [if_neg c9, if_pos c10])
          · refine g_aload_n hX (pc := 73) dX2_isFencedTwice_73 1 rfl ?_
            refine g_getNm hX (pc := 74) fcX12 (sp_in 0 rfl hm) 5 (by decide) q1006 rfl (v := .int (rRes r)) rfl dX2_isFencedTwice_74 ?_
            refine g_aload_n hX (pc := 77) dX2_isFencedTwice_77 2 rfl ?_
            refine g_getNm hX (pc := 78) fcX12 (sp_in 0 rfl hm2) 5 (by decide) q1006 rfl (v := .int (rRes r2)) rfl dX2_isFencedTwice_78 ?_
            refine g_icmp_ne hX (pc := 81) (tgt := 88) dX2_isFencedTwice_81 rfl (fun c11 => ?_) (fun c11 => ?_)
            · refine g_iconst hX (pc := 88) (v := 0) dX2_isFencedTwice_88 (by decide) ?_
              exact hj8 _ (by rw [if_neg c9, if_neg c10, if_neg c11])
            · refine g_iconst hX (pc := 84) (v := 1) dX2_isFencedTwice_84 (by decide) ?_
              refine g_goto hX (pc := 85) (tgt := 89) dX2_isFencedTwice_85 rfl ?_
              exact hj8 _ (by rw [if_neg c9, if_neg c10, if_pos c11])
      refine g_zret hX (pc := 89) hR (by (repeat' split) <;> rfl) ?_ (Nat.le_of_ble_eq_true rfl) (Nat.le_of_ble_eq_true rfl) dX2_isFencedTwice_89
      refine ⟨?_, rfl⟩
      unfold fencedB
      unfold bI
      by_cases k1 : rAns r2 = (-1)
      · simp_all
      by_cases k2 : 0 < rRes r
      · have k3 : ¬ rRes r ≤ 0 := Int32.not_le.mpr k2
        simp [k2, k3, *]
      · have k3 : rRes r ≤ 0 := Int32.not_lt.mp k2
        simp [k2, k3, *]
