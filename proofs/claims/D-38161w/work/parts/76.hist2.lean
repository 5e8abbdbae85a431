set_option maxHeartbeats 4000000 in
theorem mt_Request_isSentM (E : EE) (l : Launch) (a : Nat) (r : PR) (w : va_W) (hm : ((a, rqC E r) ∈ w)) : Mt E l yX12_isSent cX12_isSent 1 (some .boolean) 1 0 0 1 [.ref a] [w] (fun (v_ : Option Value) (cs_ : List va_W) => v_ = some (.int (if rSent r = (-1) then 0 else 1)) ∧ cs_ = [w]) := by
  refine Mt.of (by decide) (Nat.le_of_ble_eq_true rfl) (fun X hX hR hin => ?_)
  refine g_lv1 (lv1 := [(0, .ref a)]) rfl ?_
  refine g_aload_n hX (pc := 0) dX12_isSent_0 0 rfl ?_
  refine g_getm hX (pc := 1) fcX12 (sp_in 0 rfl hm) 6 (by decide) q1008 rfl (v := .int (rSent r)) rfl dX12_isSent_1 ?_
  refine g_iconst hX (pc := 4) (v := (-1)) dX12_isSent_4 (by decide) ?_
  refine g_val (v := if (rSent r) = (-1) then 0 else 1) (pcJ := 13) (st1 := []) (fun hj1 => ?_) ?_
  · refine g_icmp_eq hX (pc := 5) (tgt := 12) dX12_isSent_5 rfl (fun c2 => ?_) (fun c2 => ?_)
    · refine g_iconst hX (pc := 12) (v := 0) dX12_isSent_12 (by decide) ?_
      exact hj1 _ (by rw [if_pos c2])
    · refine g_iconst hX (pc := 8) (v := 1) dX12_isSent_8 (by decide) ?_
      refine g_goto hX (pc := 9) (tgt := 13) dX12_isSent_9 rfl ?_
      exact hj1 _ (by rw [if_neg c2])
  refine g_zret hX (pc := 13) hR (nz01 _) ?_ (Nat.le_of_ble_eq_true rfl) (Nat.le_of_ble_eq_true rfl) dX12_isSent_13
  exact ⟨rfl, rfl⟩

set_option maxHeartbeats 4000000 in
theorem mt_Request_isOfValueM (E : EE) (l : Launch) (a : Nat) (r : PR) (w : va_W) (hm : ((a, rqC E r) ∈ w)) (hkd : (rK r < 6)) : Mt E l yX12_isOfValue cX12_isOfValue 1 (some .boolean) 1 0 0 1 [.ref a] [w] (fun (v_ : Option Value) (cs_ : List va_W) => v_ = some (.int (if isVal r then 1 else 0)) ∧ cs_ = [w]) := by
  refine Mt.of (by decide) (Nat.le_of_ble_eq_true rfl) (fun X hX hR hin => ?_)
  refine g_lv1 (lv1 := [(0, .ref a)]) rfl ?_
  refine g_aload_n hX (pc := 0) dX12_isOfValue_0 0 rfl ?_
  refine g_getm hX (pc := 1) fcX12 (sp_in 0 rfl hm) 1 (by decide) q992 rfl (v := .ref (aK E (rK r))) rfl dX12_isOfValue_1 ?_
  refine g_gets hX (pc := 4) (v := .ref (aK E 0)) ((cx_gs hX).1.1 0 (by decide)).1 q276 rfl dX12_isOfValue_4 ?_
  refine g_val (v := if (aK E (rK r)) = (aK E 0) then 1 else (if (aK E (rK r)) = (aK E 1) then 1 else (if (aK E (rK r)) = (aK E 2) then 1 else 0))) (pcJ := 35) (st1 := []) (fun hj1 => ?_) ?_
  · refine g_acmp_eqr hX (pc := 7) (tgt := 30) dX12_isOfValue_7 rfl (fun c2 => ?_) (fun c2 => ?_)
    · refine g_iconst hX (pc := 30) (v := 1) dX12_isOfValue_30 (by decide) ?_
      refine g_goto hX (pc := 31) (tgt := 35) dX12_isOfValue_31 rfl ?_
      exact hj1 _ (by rw [if_pos c2])
    · refine g_aload_n hX (pc := 10) dX12_isOfValue_10 0 rfl ?_
      refine g_getm hX (pc := 11) fcX12 (sp_in 0 rfl hm) 1 (by decide) q992 rfl (v := .ref (aK E (rK r))) rfl dX12_isOfValue_11 ?_
      refine g_gets hX (pc := 14) (v := .ref (aK E 1)) ((cx_gs hX).1.1 1 (by decide)).1 q278 rfl dX12_isOfValue_14 ?_
      refine g_acmp_eqr hX (pc := 17) (tgt := 30) dX12_isOfValue_17 rfl (fun c3 => ?_) (fun c3 => ?_)
      · refine g_iconst hX (pc := 30) (v := 1) dX12_isOfValue_30 (by decide) ?_
        refine g_goto hX (pc := 31) (tgt := 35) dX12_isOfValue_31 rfl ?_
        exact hj1 _ (by rw [if_neg c2, if_pos c3])
      · refine g_aload_n hX (pc := 20) dX12_isOfValue_20 0 rfl ?_
        refine g_getm hX (pc := 21) fcX12 (sp_in 0 rfl hm) 1 (by decide) q992 rfl (v := .ref (aK E (rK r))) rfl dX12_isOfValue_21 ?_
        refine g_gets hX (pc := 24) (v := .ref (aK E 2)) ((cx_gs hX).1.1 2 (by decide)).1 q280 rfl dX12_isOfValue_24 ?_
        refine g_acmp_ner hX (pc := 27) (tgt := 34) dX12_isOfValue_27 rfl (fun c4 => ?_) (fun c4 => ?_)
        · refine g_iconst hX (pc := 34) (v := 0) dX12_isOfValue_34 (by decide) ?_
          exact hj1 _ (by rw [if_neg c2, if_neg c3, if_neg c4])
        · refine g_iconst hX (pc := 30) (v := 1) dX12_isOfValue_30 (by decide) ?_
          refine g_goto hX (pc := 31) (tgt := 35) dX12_isOfValue_31 rfl ?_
          exact hj1 _ (by rw [if_neg c2, if_neg c3, if_pos c4])
  refine g_zret hX (pc := 35) hR (by (repeat' split) <;> rfl) ?_ (Nat.le_of_ble_eq_true rfl) (Nat.le_of_ble_eq_true rfl) dX12_isOfValue_35
  have e0 : aK E (rK r) = aK E 0 ↔ rK r = 0 := aK_inj hX hkd (by omega)
  have e1 : aK E (rK r) = aK E 1 ↔ rK r = 1 := aK_inj hX hkd (by omega)
  have e2 : aK E (rK r) = aK E 2 ↔ rK r = 2 := aK_inj hX hkd (by omega)
  refine ⟨?_, rfl⟩
  simp only [e0, e1, e2]
  unfold isVal
  rcases (show rK r = 0 ∨ rK r = 1 ∨ rK r = 2 ∨ 3 ≤ rK r by omega) with h | h | h | h
  · simp [h]
  · simp [h]
  · simp [h]
  · rw [if_neg (by omega), if_neg (by omega), if_neg (by omega), if_neg (by omega)]

set_option maxHeartbeats 4000000 in
theorem mt_Request_behindM (E : EE) (l : Launch) (a : Nat) (r : PR) (w : va_W) (v : Int32) (hm : ((a, rqC E r) ∈ w)) (hkd : (rK r < 6)) : Mt E l yX12_behind cX12_behind 2 (some .int) 1 0 0 1 [.ref a, .int v] [w] (fun (v_ : Option Value) (cs_ : List va_W) => v_ = some (.int (rqBeh (rK r) (rA r) (rB r) v)) ∧ cs_ = [w]) := by
  refine Mt.of (by decide) (Nat.le_of_ble_eq_true rfl) (fun X hX hR hin => ?_)
  refine g_lv1 (lv1 := [(0, .ref a), (1, .int v)]) rfl ?_
  refine g_aload_n hX (pc := 0) dX12_behind_0 0 rfl ?_
  refine g_getm hX (pc := 1) fcX12 (sp_in 0 rfl hm) 1 (by decide) q992 rfl (v := .ref (aK E (rK r))) rfl dX12_behind_1 ?_
  refine g_gets hX (pc := 4) (v := .ref (aK E 0)) ((cx_gs hX).1.1 0 (by decide)).1 q276 rfl dX12_behind_4 ?_
  refine g_val (v := if (aK E (rK r)) = (aK E 0) then (rA r) else (if (aK E (rK r)) = (aK E 2) then (if v = (rA r) then (rB r) else v) else v)) (pcJ := 43) (st1 := []) (fun hj1 => ?_) ?_
  · refine g_acmp_ner hX (pc := 7) (tgt := 17) dX12_behind_7 rfl (fun c2 => ?_) (fun c2 => ?_)
    · refine g_aload_n hX (pc := 17) dX12_behind_17 0 rfl ?_
      refine g_getm hX (pc := 18) fcX12 (sp_in 0 rfl hm) 1 (by decide) q992 rfl (v := .ref (aK E (rK r))) rfl dX12_behind_18 ?_
      refine g_gets hX (pc := 21) (v := .ref (aK E 2)) ((cx_gs hX).1.1 2 (by decide)).1 q280 rfl dX12_behind_21 ?_
      refine g_acmp_ner hX (pc := 24) (tgt := 42) dX12_behind_24 rfl (fun c3 => ?_) (fun c3 => ?_)
      · refine g_iload_n hX (pc := 42) dX12_behind_42 1 rfl ?_
        exact hj1 _ (by rw [if_neg c2, if_neg c3])
      · refine g_iload_n hX (pc := 27) dX12_behind_27 1 rfl ?_
        refine g_aload_n hX (pc := 28) dX12_behind_28 0 rfl ?_
        refine g_getm hX (pc := 29) fcX12 (sp_in 0 rfl hm) 3 (by decide) q1001 rfl (v := .int (rA r)) rfl dX12_behind_29 ?_
        refine g_icmp_ne hX (pc := 32) (tgt := 42) dX12_behind_32 rfl (fun c4 => ?_) (fun c4 => ?_)
        · refine g_iload_n hX (pc := 42) dX12_behind_42 1 rfl ?_
          exact hj1 _ (by rw [if_neg c2, if_pos c3, if_neg c4])
        · refine g_aload_n hX (pc := 35) dX12_behind_35 0 rfl ?_
          refine g_getm hX (pc := 36) fcX12 (sp_in 0 rfl hm) 4 (by decide) q1003 rfl (v := .int (rB r)) rfl dX12_behind_36 ?_
          refine g_goto hX (pc := 39) (tgt := 43) dX12_behind_39 rfl ?_
          exact hj1 _ (by rw [if_neg c2, if_pos c3, if_pos c4])
    · refine g_aload_n hX (pc := 10) dX12_behind_10 0 rfl ?_
      refine g_getm hX (pc := 11) fcX12 (sp_in 0 rfl hm) 3 (by decide) q1001 rfl (v := .int (rA r)) rfl dX12_behind_11 ?_
      refine g_goto hX (pc := 14) (tgt := 43) dX12_behind_14 rfl ?_
      exact hj1 _ (by rw [if_pos c2])
  refine g_iret hX (pc := 43) hR ?_ (Nat.le_of_ble_eq_true rfl) (Nat.le_of_ble_eq_true rfl) dX12_behind_43
  have e0 : aK E (rK r) = aK E 0 ↔ rK r = 0 := aK_inj hX hkd (by omega)
  have e1 : aK E (rK r) = aK E 1 ↔ rK r = 1 := aK_inj hX hkd (by omega)
  have e2 : aK E (rK r) = aK E 2 ↔ rK r = 2 := aK_inj hX hkd (by omega)
  refine ⟨?_, rfl⟩
  simp only [e0, e1, e2]
  unfold rqBeh
  rfl

set_option maxHeartbeats 4000000 in
theorem mt_Request_toldM (E : EE) (l : Launch) (a : Nat) (r : PR) (w : va_W) (v : Int32) (hm : ((a, rqC E r) ∈ w)) (hkd : (rK r < 6)) : Mt E l yX12_told cX12_told 2 (some .int) 1 0 0 1 [.ref a, .int v] [w] (fun (v_ : Option Value) (cs_ : List va_W) => v_ = some (.int (rqTold (rK r) (rA r) v)) ∧ cs_ = [w]) := by
  refine Mt.of (by decide) (Nat.le_of_ble_eq_true rfl) (fun X hX hR hin => ?_)
  refine g_lv1 (lv1 := [(0, .ref a), (1, .int v)]) rfl ?_
  refine g_aload_n hX (pc := 0) dX12_told_0 0 rfl ?_
  refine g_getm hX (pc := 1) fcX12 (sp_in 0 rfl hm) 1 (by decide) q992 rfl (v := .ref (aK E (rK r))) rfl dX12_told_1 ?_
  refine g_gets hX (pc := 4) (v := .ref (aK E 2)) ((cx_gs hX).1.1 2 (by decide)).1 q280 rfl dX12_told_4 ?_
  refine g_val (v := if (aK E (rK r)) = (aK E 2) then (if v = (rA r) then 1 else 0) else v) (pcJ := 27) (st1 := []) (fun hj1 => ?_) ?_
  · refine g_acmp_ner hX (pc := 7) (tgt := 26) dX12_told_7 rfl (fun c2 => ?_) (fun c2 => ?_)
    · refine g_iload_n hX (pc := 26) dX12_told_26 1 rfl ?_
      exact hj1 _ (by rw [if_neg c2])
    · refine g_iload_n hX (pc := 10) dX12_told_10 1 rfl ?_
      refine g_aload_n hX (pc := 11) dX12_told_11 0 rfl ?_
      refine g_getm hX (pc := 12) fcX12 (sp_in 0 rfl hm) 3 (by decide) q1001 rfl (v := .int (rA r)) rfl dX12_told_12 ?_
      refine g_icmp_ne hX (pc := 15) (tgt := 22) dX12_told_15 rfl (fun c3 => ?_) (fun c3 => ?_)
      · refine g_iconst hX (pc := 22) (v := 0) dX12_told_22 (by decide) ?_
        refine g_goto hX (pc := 23) (tgt := 27) dX12_told_23 rfl ?_
        exact hj1 _ (by rw [if_pos c2, if_neg c3])
      · refine g_iconst hX (pc := 18) (v := 1) dX12_told_18 (by decide) ?_
        refine g_goto hX (pc := 19) (tgt := 27) dX12_told_19 rfl ?_
        exact hj1 _ (by rw [if_pos c2, if_pos c3])
  refine g_iret hX (pc := 27) hR ?_ (Nat.le_of_ble_eq_true rfl) (Nat.le_of_ble_eq_true rfl) dX12_told_27
  have e0 : aK E (rK r) = aK E 0 ↔ rK r = 0 := aK_inj hX hkd (by omega)
  have e1 : aK E (rK r) = aK E 1 ↔ rK r = 1 := aK_inj hX hkd (by omega)
  have e2 : aK E (rK r) = aK E 2 ↔ rK r = 2 := aK_inj hX hkd (by omega)
  refine ⟨?_, rfl⟩
  simp only [e0, e1, e2]
  unfold rqTold
  rfl

set_option maxHeartbeats 4000000 in
theorem mt_History_put (E : EE) (l : Launch) (h : Nat) (ha : Nat) (tr : Nat) (f : Nat → Int64) (gl : List PR) (wh : va_W) (wq : va_W) (x : Nat) (r : PR) (hw : HL E ha gl wq wh) (hx : ((x, rqC E r) ∈ wq)) (hl : (List.length gl ≤ 8)) : Mt E l yX16_put cX16_put 3 none 6 1 26 151 [.ref h, .ref x] [[(h, ob 14 [.ref ha, .ref tr])], [(tr, lA (aC E 1) 400 f)], wh, wq] (fun (v_ : Option Value) (cs_ : List va_W) => ∃ (w1 : va_W), HL E ha (hPut gl r) wq w1 ∧ v_ = none ∧ cs_ = [[(h, ob 14 [.ref ha, .ref tr])], [(tr, lA (aC E 1) 400 f)], w1, wq]) := by
  refine Mt.of (by decide) (Nat.le_of_ble_eq_true rfl) (fun X hX hR hin => ?_)
  refine g_lv1 (lv1 := [(0, .ref h), (1, .ref x)]) rfl ?_
  obtain ⟨as1, hA2, hal3, hok4, hins5, hera6⟩ := HL.al hw
  refine g_aload_n hX (pc := 0) dX16_put_0 0 rfl ?_
  refine g_get hX (pc := 1) fcX16 0 rfl 0 (by decide) q695 rfl (v := .ref ha) rfl dX16_put_1 ?_
  obtain ⟨fs7, hm8⟩ := AL.head hA2
  refine g_callF hX (pc := 4) kfJ2_size (mt_AL_size E l ha as1 wh hA2) q268 fcJ2 (sp_in 2 rfl hm8) [2] rfl rfl rfl (Nat.le_of_ble_eq_true rfl) (Nat.le_of_ble_eq_true rfl) (Nat.le_of_ble_eq_true rfl) (by omega) (by omega) dX16_put_4 (fun v w1 hp => ?_)
  obtain ⟨rfl, rfl⟩ := hp
  refine g_nrm (cs1 := [wh, [(h, ob 14 [.ref ha, .ref tr])], [(tr, lA (aC E 1) 400 f)], wq]) (st1 := [.int (nI (List.length as1))]) rfl rfl ?_
  refine g_eqi (nI (List.length gl)) (by rw [hal3]) ?_
  refine g_istore_n hX (pc := 9) (lv1 := [(2, .int (nI (List.length gl))), (0, .ref h), (1, .ref x)]) dX16_put_9 (by decide) rfl ?_
  have lp9 : ∀ (F1 : Nat) (p : Nat), p < F1 → (p ≤ List.length gl) → (plc gl (rSent r) (List.length gl) = plc gl (rSent r) p) → G E l X [wh, [(h, ob 14 [.ref ha, .ref tr])], [(tr, lA (aC E 1) 400 f)], wq] 0 0 10 [(2, .int (nI p)), (0, .ref h), (1, .ref x)] [] := by
    intro F1
    induction F1 with
    | zero =>
      intro p hF hp hpl
      exact absurd hF (Nat.not_lt_zero _)
    | succ F1 ih1 =>
      intro p hF hp hpl
      refine g_iload_n hX (pc := 10) dX16_put_10 0 rfl ?_
      refine g_if_le hX (pc := 11) (tgt := 45) dX16_put_11 rfl (fun c10 => ?_) (fun c10 => ?_)
      · have d1 : p = 0 := by
          have h1 := c10
          rw [← nI_0] at h1
          have := (nI_leI (by omega) (by omega)).mp h1
          omega
        have hpp : plc gl (rSent r) (List.length gl) = p := by rw [hpl, d1]; rfl
        refine g_aload_n hX (pc := 45) dX16_put_45 1 rfl ?_
        refine g_get hX (pc := 46) fcX16 1 rfl 0 (by decide) q695 rfl (v := .ref ha) rfl dX16_put_46 ?_
        refine g_iload_n hX (pc := 49) dX16_put_49 0 rfl ?_
        refine g_aload_n hX (pc := 50) dX16_put_50 2 rfl ?_
        refine g_callF hX (pc := 51) kfJ2_add (mt_AL_addAt E l ha as1 wh p x wq 8 hA2 (by omega) (by omega) (by omega) (Or.inl ⟨10, _, hx, by omega⟩) (hok4)) q291 fcJ2 (sp_in 0 rfl hm8) [0, 2] rfl rfl rfl (Nat.le_of_ble_eq_true rfl) (Nat.le_of_ble_eq_true rfl) (Nat.le_of_ble_eq_true rfl) (by omega) (by omega) dX16_put_51 (fun v w1 hp => ?_)
        obtain ⟨w111, h12, rfl, rfl⟩ := hp
        refine g_nrm (cs1 := [w111, wq, [(h, ob 14 [.ref ha, .ref tr])], [(tr, lA (aC E 1) 400 f)]]) (st1 := []) rfl rfl ?_
        have hH13 : HL E ha (List.insertIdx gl p r) wq w111 := hins5 _ _ _ _ hx h12
        have hil : (List.insertIdx gl p r).length = List.length gl + 1 := by rw [List.length_insertIdx, if_pos hp]
        have hpe : hPut gl r = List.eraseIdx (List.insertIdx gl p r) 8 := by unfold hPut; rw [hpp]
        obtain ⟨as14, hA15, hal16, hok17, hins18, hera19⟩ := HL.al hH13
        refine g_aload_n hX (pc := 56) dX16_put_56 1 rfl ?_
        refine g_get hX (pc := 57) fcX16 2 rfl 0 (by decide) q695 rfl (v := .ref ha) rfl dX16_put_57 ?_
        obtain ⟨fs20, hm21⟩ := AL.head hA15
        refine g_callF hX (pc := 60) kfJ2_size (mt_AL_size E l ha as14 w111 hA15) q268 fcJ2 (sp_in 0 rfl hm21) [0] rfl rfl rfl (Nat.le_of_ble_eq_true rfl) (Nat.le_of_ble_eq_true rfl) (Nat.le_of_ble_eq_true rfl) (by omega) (by omega) dX16_put_60 (fun v w1 hp => ?_)
        obtain ⟨rfl, rfl⟩ := hp
        refine g_nrm (cs1 := [w111, wq, [(h, ob 14 [.ref ha, .ref tr])], [(tr, lA (aC E 1) 400 f)]]) (st1 := [.int (nI (List.length as14))]) rfl rfl ?_
        refine g_eqi (nI (List.length (List.insertIdx gl p r))) (by rw [hal16]) ?_
        refine g_bipush hX (pc := 65) (v := 8) dX16_put_65 (by decide) ?_
        refine g_icmp_le hX (pc := 67) (tgt := 82) dX16_put_67 rfl (fun c22 => ?_) (fun c22 => ?_)
        · have d2 : List.length gl + 1 ≤ 8 := by
            have h1 := c22
            rw [hil, show (8 : Int32) = nI 8 from rfl] at h1
            exact (nI_leI (by omega) (by omega)).mp h1
          have hpf : hPut gl r = List.insertIdx gl p r := by rw [hpe]; exact List.eraseIdx_of_length_le (by omega)
          refine g_pk [2, 2, 0, 0] rfl ?_
          refine g_cs (cs1 := [[(h, ob 14 [.ref ha, .ref tr])], [(tr, lA (aC E 1) 400 f)], w111, wq]) rfl ?_
          refine g_vret hX (pc := 82) hR ?_ (by omega) (by omega) dX16_put_82
          rw [hpf]
          exact ⟨_, hH13, rfl, rfl⟩
        · have d2 : 8 < List.length gl + 1 := by
            have h1 := mt (nI_leI (a := (List.insertIdx gl p r).length) (b := 8) (by omega) (by omega)).mpr c22
            omega
          obtain ⟨y9, hy9⟩ := get_ex (l := as14) (i := 8) (by omega)
          refine g_aload_n hX (pc := 70) dX16_put_70 1 rfl ?_
          refine g_get hX (pc := 71) fcX16 2 rfl 0 (by decide) q695 rfl (v := .ref ha) rfl dX16_put_71 ?_
          refine g_bipush hX (pc := 74) (v := 8) dX16_put_74 (by decide) ?_
          refine g_eqi (nI 8) (rfl) ?_
          refine g_callF hX (pc := 76) kfJ2_remove (mt_AL_remove E l ha as14 w111 8 y9 wq hA15 (hy9) (hok17)) q683 fcJ2 (sp_in 0 rfl hm21) [0, 0] rfl rfl rfl (Nat.le_of_ble_eq_true rfl) (Nat.le_of_ble_eq_true rfl) (Nat.le_of_ble_eq_true rfl) (by omega) (by omega) dX16_put_76 (fun v w1 hp => ?_)
          obtain ⟨w123, h24, rfl, rfl⟩ := hp
          refine g_nrm (cs1 := [w123, wq, [(h, ob 14 [.ref ha, .ref tr])], [(tr, lA (aC E 1) 400 f)]]) (st1 := [.ref y9]) rfl rfl ?_
          refine g_pop hX (pc := 81) dX16_put_81 rfl ?_
          refine g_pk [2, 2, 0, 0] rfl ?_
          refine g_cs (cs1 := [[(h, ob 14 [.ref ha, .ref tr])], [(tr, lA (aC E 1) 400 f)], w123, wq]) rfl ?_
          refine g_vret hX (pc := 82) hR ?_ (by omega) (by omega) dX16_put_82
          rw [hpe]
          exact ⟨_, hera19 _ _ h24, rfl, rfl⟩
      · have d1 : 0 < p := by
          rcases Nat.eq_zero_or_pos p with h1 | h1
          · exact absurd (by rw [h1, nI_0]; exact Int32.le_refl 0) c10
          · exact h1
        obtain ⟨r25, hgr25⟩ := get_ex (l := gl) (i := p - 1) (by omega)
        obtain ⟨as26, y27, hA28, hl29, hk30, hm31⟩ := HL.at hw hgr25
        refine g_aload_n hX (pc := 14) dX16_put_14 1 rfl ?_
        refine g_get hX (pc := 15) fcX16 1 rfl 0 (by decide) q695 rfl (v := .ref ha) rfl dX16_put_15 ?_
        refine g_iload_n hX (pc := 18) dX16_put_18 0 rfl ?_
        refine g_iconst hX (pc := 19) (v := 1) dX16_put_19 (by decide) ?_
        refine g_isub hX (pc := 20) dX16_put_20 ?_
        refine g_eqi (nI (p - 1)) (by rw [show (1 : Int32) = nI 1 from rfl, pk_sub (by omega)]) ?_
        refine g_callF hX (pc := 21) kfJ2_get (mt_AL_get E l ha as26 wh (p - 1) y27 hA28 (hk30)) q270 fcJ2 (sp_in 0 rfl hm8) [0] rfl rfl rfl (Nat.le_of_ble_eq_true rfl) (Nat.le_of_ble_eq_true rfl) (Nat.le_of_ble_eq_true rfl) (by omega) (by omega) dX16_put_21 (fun v w1 hp => ?_)
        obtain ⟨rfl, rfl⟩ := hp
        refine g_nrm (cs1 := [wh, [(h, ob 14 [.ref ha, .ref tr])], [(tr, lA (aC E 1) 400 f)], wq]) (st1 := [.ref y27]) rfl rfl ?_
        refine g_cast hX (pc := 26) fcX12 (sp_in 3 rfl hm31) q271 dX16_put_26 ?_
        refine g_getNm hX (pc := 29) fcX12 (sp_in 3 rfl hm31) 6 (by decide) q1009 rfl (v := .int (rSent r25)) rfl dX16_put_29 ?_
        refine g_aload_n hX (pc := 32) dX16_put_32 2 rfl ?_
        refine g_getNm hX (pc := 33) fcX12 (sp_in 3 rfl hx) 6 (by decide) q1009 rfl (v := .int (rSent r)) rfl dX16_put_33 ?_
        refine g_icmp_le hX (pc := 36) (tgt := 45) dX16_put_36 rfl (fun c32 => ?_) (fun c32 => ?_)
        · have hps : plc gl (rSent r) p = (if rSent r < rSent r25 then plc gl (rSent r) (p - 1) else p) := by
            have e : p = (p - 1) + 1 := by omega
            rw [e]
            show (if rSent r < rSent ((gl[p - 1]?).getD r0) then plc gl (rSent r) (p - 1) else p - 1 + 1) = _
            rw [getD_e hgr25, Nat.add_sub_cancel]
          have hpp : plc gl (rSent r) (List.length gl) = p := by rw [hpl, hps, if_neg (Int32.not_lt.mpr c32)]
          refine g_aload_n hX (pc := 45) dX16_put_45 1 rfl ?_
          refine g_get hX (pc := 46) fcX16 1 rfl 0 (by decide) q695 rfl (v := .ref ha) rfl dX16_put_46 ?_
          refine g_iload_n hX (pc := 49) dX16_put_49 0 rfl ?_
          refine g_aload_n hX (pc := 50) dX16_put_50 2 rfl ?_
          refine g_callF hX (pc := 51) kfJ2_add (mt_AL_addAt E l ha as1 wh p x wq 8 hA2 (by omega) (by omega) (by omega) (Or.inl ⟨10, _, hx, by omega⟩) (hok4)) q291 fcJ2 (sp_in 0 rfl hm8) [0, 2] rfl rfl rfl (Nat.le_of_ble_eq_true rfl) (Nat.le_of_ble_eq_true rfl) (Nat.le_of_ble_eq_true rfl) (by omega) (by omega) dX16_put_51 (fun v w1 hp => ?_)
          obtain ⟨w133, h34, rfl, rfl⟩ := hp
          refine g_nrm (cs1 := [w133, wq, [(h, ob 14 [.ref ha, .ref tr])], [(tr, lA (aC E 1) 400 f)]]) (st1 := []) rfl rfl ?_
          have hH35 : HL E ha (List.insertIdx gl p r) wq w133 := hins5 _ _ _ _ hx h34
          have hil : (List.insertIdx gl p r).length = List.length gl + 1 := by rw [List.length_insertIdx, if_pos hp]
          have hpe : hPut gl r = List.eraseIdx (List.insertIdx gl p r) 8 := by unfold hPut; rw [hpp]
          obtain ⟨as36, hA37, hal38, hok39, hins40, hera41⟩ := HL.al hH35
          refine g_aload_n hX (pc := 56) dX16_put_56 1 rfl ?_
          refine g_get hX (pc := 57) fcX16 2 rfl 0 (by decide) q695 rfl (v := .ref ha) rfl dX16_put_57 ?_
          obtain ⟨fs42, hm43⟩ := AL.head hA37
          refine g_callF hX (pc := 60) kfJ2_size (mt_AL_size E l ha as36 w133 hA37) q268 fcJ2 (sp_in 0 rfl hm43) [0] rfl rfl rfl (Nat.le_of_ble_eq_true rfl) (Nat.le_of_ble_eq_true rfl) (Nat.le_of_ble_eq_true rfl) (by omega) (by omega) dX16_put_60 (fun v w1 hp => ?_)
          obtain ⟨rfl, rfl⟩ := hp
          refine g_nrm (cs1 := [w133, wq, [(h, ob 14 [.ref ha, .ref tr])], [(tr, lA (aC E 1) 400 f)]]) (st1 := [.int (nI (List.length as36))]) rfl rfl ?_
          refine g_eqi (nI (List.length (List.insertIdx gl p r))) (by rw [hal38]) ?_
          refine g_bipush hX (pc := 65) (v := 8) dX16_put_65 (by decide) ?_
          refine g_icmp_le hX (pc := 67) (tgt := 82) dX16_put_67 rfl (fun c44 => ?_) (fun c44 => ?_)
          · have d2 : List.length gl + 1 ≤ 8 := by
              have h1 := c44
              rw [hil, show (8 : Int32) = nI 8 from rfl] at h1
              exact (nI_leI (by omega) (by omega)).mp h1
            have hpf : hPut gl r = List.insertIdx gl p r := by rw [hpe]; exact List.eraseIdx_of_length_le (by omega)
            refine g_pk [2, 2, 0, 0] rfl ?_
            refine g_cs (cs1 := [[(h, ob 14 [.ref ha, .ref tr])], [(tr, lA (aC E 1) 400 f)], w133, wq]) rfl ?_
            refine g_vret hX (pc := 82) hR ?_ (by omega) (by omega) dX16_put_82
            rw [hpf]
            exact ⟨_, hH35, rfl, rfl⟩
          · have d2 : 8 < List.length gl + 1 := by
              have h1 := mt (nI_leI (a := (List.insertIdx gl p r).length) (b := 8) (by omega) (by omega)).mpr c44
              omega
            obtain ⟨y9, hy9⟩ := get_ex (l := as36) (i := 8) (by omega)
            refine g_aload_n hX (pc := 70) dX16_put_70 1 rfl ?_
            refine g_get hX (pc := 71) fcX16 2 rfl 0 (by decide) q695 rfl (v := .ref ha) rfl dX16_put_71 ?_
            refine g_bipush hX (pc := 74) (v := 8) dX16_put_74 (by decide) ?_
            refine g_eqi (nI 8) (rfl) ?_
            refine g_callF hX (pc := 76) kfJ2_remove (mt_AL_remove E l ha as36 w133 8 y9 wq hA37 (hy9) (hok39)) q683 fcJ2 (sp_in 0 rfl hm43) [0, 0] rfl rfl rfl (Nat.le_of_ble_eq_true rfl) (Nat.le_of_ble_eq_true rfl) (Nat.le_of_ble_eq_true rfl) (by omega) (by omega) dX16_put_76 (fun v w1 hp => ?_)
            obtain ⟨w145, h46, rfl, rfl⟩ := hp
            refine g_nrm (cs1 := [w145, wq, [(h, ob 14 [.ref ha, .ref tr])], [(tr, lA (aC E 1) 400 f)]]) (st1 := [.ref y9]) rfl rfl ?_
            refine g_pop hX (pc := 81) dX16_put_81 rfl ?_
            refine g_pk [2, 2, 0, 0] rfl ?_
            refine g_cs (cs1 := [[(h, ob 14 [.ref ha, .ref tr])], [(tr, lA (aC E 1) 400 f)], w145, wq]) rfl ?_
            refine g_vret hX (pc := 82) hR ?_ (by omega) (by omega) dX16_put_82
            rw [hpe]
            exact ⟨_, hera41 _ _ h46, rfl, rfl⟩
        · have hps : plc gl (rSent r) p = (if rSent r < rSent r25 then plc gl (rSent r) (p - 1) else p) := by
            have e : p = (p - 1) + 1 := by omega
            rw [e]
            show (if rSent r < rSent ((gl[p - 1]?).getD r0) then plc gl (rSent r) (p - 1) else p - 1 + 1) = _
            rw [getD_e hgr25, Nat.add_sub_cancel]
          have hpd : plc gl (rSent r) (List.length gl) = plc gl (rSent r) (p - 1) := by rw [hpl, hps, if_pos (Int32.not_le.mp c32)]
          refine g_iinc hX (pc := 39) (v := nI (p - 1)) (lv1 := [(2, .int (nI (p - 1))), (0, .ref h), (1, .ref x)]) dX16_put_39 0 rfl (nI_m1 (by omega)) (by decide) rfl ?_
          refine g_goto hX (pc := 42) (tgt := 10) dX16_put_42 rfl ?_
          refine g_widen (kc1 := 0) (ks1 := 0) (by omega) (by omega) ?_
          exact ih1 (p - 1) (by omega) (by omega) (hpd)
  refine g_widen (kc1 := 0) (ks1 := 0) (by omega) (by omega) ?_
  exact lp9 ((List.length gl) + 1) (List.length gl) (Nat.lt_succ_self _) (Nat.le_refl _) (rfl)

set_option maxHeartbeats 4000000 in
theorem mt_History_isNext (E : EE) (l : Launch) (h : Nat) (ha : Nat) (tr : Nat) (gl : List PR) (wh : va_W) (wq : va_W) (s : Nat) (x : Nat) (r : PR) (hw : HL E ha gl wq wh) (hx : ((x, rqC E r) ∈ wq)) (hl : (List.length gl ≤ 8)) (hs : (s < 256)) : Mt E l yX16_isNext cX16_isNext 6 (some .boolean) 4 0 0 65 [.ref h, .int (nI s), .ref x] [[(h, ob 14 [.ref ha, .ref tr])], wh, wq] (fun (v_ : Option Value) (cs_ : List va_W) => v_ = some (.int (bI (nxUp gl s r (List.length gl)))) ∧ cs_ = [[(h, ob 14 [.ref ha, .ref tr])], wh, wq]) := by
  refine Mt.of (by decide) (Nat.le_of_ble_eq_true rfl) (fun X hX hR hin => ?_)
  refine g_lv1 (lv1 := [(0, .ref h), (1, .int (nI s)), (2, .ref x)]) rfl ?_
  obtain ⟨as1, hA2, hal3, hok4, hins5, hera6⟩ := HL.al hw
  refine g_iconst hX (pc := 0) (v := 1) dX16_isNext_0 (by decide) ?_
  refine g_eqi (bI (nxUp gl s r 0)) (rfl) ?_
  refine g_istore_n hX (pc := 1) (lv1 := [(3, .int (bI (nxUp gl s r 0))), (0, .ref h), (1, .int (nI s)), (2, .ref x)]) dX16_isNext_1 (by decide) rfl ?_
  refine g_iconst hX (pc := 2) (v := 0) dX16_isNext_2 (by decide) ?_
  refine g_eqi (nI 0) (nI_0.symm) ?_
  refine g_istore hX (pc := 3) (lv1 := [(4, .int (nI 0)), (3, .int (bI (nxUp gl s r 0))), (0, .ref h), (1, .int (nI s)), (2, .ref x)]) dX16_isNext_3 (by decide) rfl ?_
  have lp7 : ∀ (F1 : Nat) (k : Nat), List.length gl - k < F1 → (k ≤ List.length gl) → G E l X [[(h, ob 14 [.ref ha, .ref tr])], wh, wq] 0 0 5 [(4, .int (nI k)), (3, .int (bI (nxUp gl s r k))), (0, .ref h), (1, .int (nI s)), (2, .ref x)] [] := by
    intro F1
    induction F1 with
    | zero =>
      intro k hF hk
      exact absurd hF (Nat.not_lt_zero _)
    | succ F1 ih1 =>
      intro k hF hk
      refine g_iload hX (pc := 5) dX16_isNext_5 0 rfl ?_
      refine g_aload_n hX (pc := 7) dX16_isNext_7 2 rfl ?_
      refine g_get hX (pc := 8) fcX16 0 rfl 0 (by decide) q695 rfl (v := .ref ha) rfl dX16_isNext_8 ?_
      obtain ⟨fs8, hm9⟩ := AL.head hA2
      refine g_callF hX (pc := 11) kfJ2_size (mt_AL_size E l ha as1 wh hA2) q268 fcJ2 (sp_in 1 rfl hm9) [1] rfl rfl rfl (Nat.le_of_ble_eq_true rfl) (Nat.le_of_ble_eq_true rfl) (Nat.le_of_ble_eq_true rfl) (by omega) (by omega) dX16_isNext_11 (fun v w1 hp => ?_)
      obtain ⟨rfl, rfl⟩ := hp
      refine g_nrm (cs1 := [wh, [(h, ob 14 [.ref ha, .ref tr])], wq]) (st1 := [.int (nI (List.length as1)), .int (nI k)]) rfl rfl ?_
      refine g_eqi (nI (List.length gl)) (by rw [hal3]) ?_
      refine g_icmp_ge hX (pc := 16) (tgt := 99) dX16_isNext_16 rfl (fun c10 => ?_) (fun c10 => ?_)
      · have d1 : k = List.length gl := by
          have := (nI_leI (by omega) (by omega)).mp c10
          omega
        subst d1
        refine g_iload_n hX (pc := 99) dX16_isNext_99 1 rfl ?_
        refine g_pk [1, 0, 0] rfl ?_
        refine g_cs (cs1 := [[(h, ob 14 [.ref ha, .ref tr])], wh, wq]) rfl ?_
        refine g_zret hX (pc := 100) hR (bI_n _) ?_ (by omega) (by omega) dX16_isNext_100
        exact ⟨rfl, rfl⟩
      · have d1 : k < List.length gl := by
          have := mt (nI_leI (by omega) (by omega)).mpr c10
          omega
        obtain ⟨r11, hgr11⟩ := get_ex (l := gl) (i := k) (d1)
        obtain ⟨as12, y13, hA14, hl15, hk16, hm17⟩ := HL.at hw hgr11
        refine g_aload_n hX (pc := 19) dX16_isNext_19 2 rfl ?_
        refine g_get hX (pc := 20) fcX16 1 rfl 0 (by decide) q695 rfl (v := .ref ha) rfl dX16_isNext_20 ?_
        refine g_iload hX (pc := 23) dX16_isNext_23 0 rfl ?_
        refine g_callF hX (pc := 25) kfJ2_get (mt_AL_get E l ha as12 wh k y13 hA14 (hk16)) q270 fcJ2 (sp_in 0 rfl hm9) [0] rfl rfl rfl (Nat.le_of_ble_eq_true rfl) (Nat.le_of_ble_eq_true rfl) (Nat.le_of_ble_eq_true rfl) (by omega) (by omega) dX16_isNext_25 (fun v w1 hp => ?_)
        obtain ⟨rfl, rfl⟩ := hp
        refine g_nrm (cs1 := [wh, [(h, ob 14 [.ref ha, .ref tr])], wq]) (st1 := [.ref y13]) rfl rfl ?_
        refine g_cast hX (pc := 30) fcX12 (sp_in 2 rfl hm17) q271 dX16_isNext_30 ?_
        refine g_callV hX (pc := 33) kX12_isAnswered (mt_Request_isAnsweredM E l y13 r11 wq (hm17)) q710 fcX12 (sp_in 2 rfl hm17) [2] rfl rfl rfl (Nat.le_of_ble_eq_true rfl) (Nat.le_of_ble_eq_true rfl) (Nat.le_of_ble_eq_true rfl) (by omega) (by omega) dX16_isNext_33 (fun v w1 hp => ?_)
        obtain ⟨rfl, rfl⟩ := hp
        refine g_nrm (cs1 := [wq, wh, [(h, ob 14 [.ref ha, .ref tr])]]) (st1 := [.int (if rAns r11 = (-1) then 0 else 1)]) rfl rfl ?_
        refine g_if_eq hX (pc := 36) (tgt := 67) dX16_isNext_36 rfl (fun c18_ => ?_) (fun c18_ => ?_)
        · have c18 := z01.mp c18_
          refine g_iconst hX (pc := 67) (v := 0) dX16_isNext_67 (by decide) ?_
          refine g_istore hX (pc := 68) (lv1 := [(5, .int 0), (4, .int (nI k)), (3, .int (bI (nxUp gl s r k))), (0, .ref h), (1, .int (nI s)), (2, .ref x)]) dX16_isNext_68 (by decide) rfl ?_
          refine g_iload_n hX (pc := 70) dX16_isNext_70 2 rfl ?_
          refine g_iload hX (pc := 71) dX16_isNext_71 0 rfl ?_
          refine g_if_eq hX (pc := 73) (tgt := 86) dX16_isNext_73 rfl (fun c19 => ?_) (fun c19 => ?_)
          · refine g_iconst hX (pc := 86) (v := 1) dX16_isNext_86 (by decide) ?_
            refine g_goto hX (pc := 87) (tgt := 91) dX16_isNext_87 rfl ?_
            refine g_iand hX (pc := 91) dX16_isNext_91 ?_
            refine g_eqi (bI (nxUp gl s r (k + 1))) (nx_1 hgr11 (Or.inl (fun z => z.1 c18))) ?_
            refine g_istore_n hX (pc := 92) (lv1 := [(3, .int (bI (nxUp gl s r (k + 1)))), (5, .int 0), (4, .int (nI k)), (0, .ref h), (1, .int (nI s)), (2, .ref x)]) dX16_isNext_92 (by decide) rfl ?_
            refine g_iinc hX (pc := 93) (v := nI (k + 1)) (lv1 := [(4, .int (nI (k + 1))), (3, .int (bI (nxUp gl s r (k + 1)))), (5, .int 0), (0, .ref h), (1, .int (nI s)), (2, .ref x)]) dX16_isNext_93 2 rfl (nI_1 _) (by decide) rfl ?_
            refine g_goto hX (pc := 96) (tgt := 5) dX16_isNext_96 rfl ?_
            refine g_pk [2, 1, 0] rfl ?_
            refine g_cs (cs1 := [[(h, ob 14 [.ref ha, .ref tr])], wh, wq]) rfl ?_
            refine g_lv (lv1 := [(4, .int (nI (k + 1))), (3, .int (bI (nxUp gl s r (k + 1)))), (0, .ref h), (1, .int (nI s)), (2, .ref x)]) [0, 1, 3, 4, 5] rfl ?_
            refine g_widen (kc1 := 0) (ks1 := 0) (by omega) (by omega) ?_
            exact ih1 (k + 1) (by omega) (by omega)
          · exact absurd c19 (by decide)
        · have c18 := z01n.mp c18_
          refine g_aload_n hX (pc := 39) dX16_isNext_39 2 rfl ?_
          refine g_get hX (pc := 40) fcX16 2 rfl 0 (by decide) q695 rfl (v := .ref ha) rfl dX16_isNext_40 ?_
          refine g_iload hX (pc := 43) dX16_isNext_43 0 rfl ?_
          refine g_callF hX (pc := 45) kfJ2_get (mt_AL_get E l ha as12 wh k y13 hA14 (hk16)) q270 fcJ2 (sp_in 1 rfl hm9) [1] rfl rfl rfl (Nat.le_of_ble_eq_true rfl) (Nat.le_of_ble_eq_true rfl) (Nat.le_of_ble_eq_true rfl) (by omega) (by omega) dX16_isNext_45 (fun v w1 hp => ?_)
          obtain ⟨rfl, rfl⟩ := hp
          refine g_nrm (cs1 := [wh, wq, [(h, ob 14 [.ref ha, .ref tr])]]) (st1 := [.ref y13]) rfl rfl ?_
          refine g_cast hX (pc := 50) fcX12 (sp_in 1 rfl hm17) q271 dX16_isNext_50 ?_
          refine g_getNm hX (pc := 53) fcX12 (sp_in 1 rfl hm17) 7 (by decide) q1012 rfl (v := .int (rAns r11)) rfl dX16_isNext_53 ?_
          refine g_aload_n hX (pc := 56) dX16_isNext_56 4 rfl ?_
          refine g_getNm hX (pc := 57) fcX12 (sp_in 1 rfl hx) 6 (by decide) q1009 rfl (v := .int (rSent r)) rfl dX16_isNext_57 ?_
          refine g_icmp_ge hX (pc := 60) (tgt := 67) dX16_isNext_60 rfl (fun c20 => ?_) (fun c20 => ?_)
          · refine g_iconst hX (pc := 67) (v := 0) dX16_isNext_67 (by decide) ?_
            refine g_istore hX (pc := 68) (lv1 := [(5, .int 0), (4, .int (nI k)), (3, .int (bI (nxUp gl s r k))), (0, .ref h), (1, .int (nI s)), (2, .ref x)]) dX16_isNext_68 (by decide) rfl ?_
            refine g_iload_n hX (pc := 70) dX16_isNext_70 2 rfl ?_
            refine g_iload hX (pc := 71) dX16_isNext_71 0 rfl ?_
            refine g_if_eq hX (pc := 73) (tgt := 86) dX16_isNext_73 rfl (fun c21 => ?_) (fun c21 => ?_)
            · refine g_iconst hX (pc := 86) (v := 1) dX16_isNext_86 (by decide) ?_
              refine g_goto hX (pc := 87) (tgt := 91) dX16_isNext_87 rfl ?_
              refine g_iand hX (pc := 91) dX16_isNext_91 ?_
              refine g_eqi (bI (nxUp gl s r (k + 1))) (nx_1 hgr11 (Or.inl (fun z => absurd z.2 (Int32.not_lt.mpr c20)))) ?_
              refine g_istore_n hX (pc := 92) (lv1 := [(3, .int (bI (nxUp gl s r (k + 1)))), (5, .int 0), (4, .int (nI k)), (0, .ref h), (1, .int (nI s)), (2, .ref x)]) dX16_isNext_92 (by decide) rfl ?_
              refine g_iinc hX (pc := 93) (v := nI (k + 1)) (lv1 := [(4, .int (nI (k + 1))), (3, .int (bI (nxUp gl s r (k + 1)))), (5, .int 0), (0, .ref h), (1, .int (nI s)), (2, .ref x)]) dX16_isNext_93 2 rfl (nI_1 _) (by decide) rfl ?_
              refine g_goto hX (pc := 96) (tgt := 5) dX16_isNext_96 rfl ?_
              refine g_pk [2, 0, 0] rfl ?_
              refine g_cs (cs1 := [[(h, ob 14 [.ref ha, .ref tr])], wh, wq]) rfl ?_
              refine g_lv (lv1 := [(4, .int (nI (k + 1))), (3, .int (bI (nxUp gl s r (k + 1)))), (0, .ref h), (1, .int (nI s)), (2, .ref x)]) [0, 1, 3, 4, 5] rfl ?_
              refine g_widen (kc1 := 0) (ks1 := 0) (by omega) (by omega) ?_
              exact ih1 (k + 1) (by omega) (by omega)
            · exact absurd c21 (by decide)
          · refine g_iconst hX (pc := 63) (v := 1) dX16_isNext_63 (by decide) ?_
            refine g_goto hX (pc := 64) (tgt := 68) dX16_isNext_64 rfl ?_
            refine g_istore hX (pc := 68) (lv1 := [(5, .int 1), (4, .int (nI k)), (3, .int (bI (nxUp gl s r k))), (0, .ref h), (1, .int (nI s)), (2, .ref x)]) dX16_isNext_68 (by decide) rfl ?_
            refine g_iload_n hX (pc := 70) dX16_isNext_70 2 rfl ?_
            refine g_iload hX (pc := 71) dX16_isNext_71 0 rfl ?_
            refine g_if_eq hX (pc := 73) (tgt := 86) dX16_isNext_73 rfl (fun c22 => ?_) (fun c22 => ?_)
            · exact absurd c22 (by decide)
            · refine g_iload_n hX (pc := 76) dX16_isNext_76 4 rfl ?_
              refine g_iload hX (pc := 77) dX16_isNext_77 1 rfl ?_
              refine g_ishr hX (pc := 79) dX16_isNext_79 ?_
              refine g_iconst hX (pc := 80) (v := 1) dX16_isNext_80 (by decide) ?_
              refine g_iand hX (pc := 81) dX16_isNext_81 ?_
              refine g_eqi (bI (Nat.testBit s k)) (sb_get s hs k (by omega)) ?_
              refine g_iconst hX (pc := 82) (v := 1) dX16_isNext_82 (by decide) ?_
              refine g_icmp_ne hX (pc := 83) (tgt := 90) dX16_isNext_83 rfl (fun c23 => ?_) (fun c23 => ?_)
              · refine g_iconst hX (pc := 90) (v := 0) dX16_isNext_90 (by decide) ?_
                refine g_iand hX (pc := 91) dX16_isNext_91 ?_
                refine g_eqi (bI (nxUp gl s r (k + 1))) (nx_0 hgr11 ⟨c18, Int32.not_le.mp c20⟩ (fun z => c23 (bI_1.mpr z))) ?_
                refine g_istore_n hX (pc := 92) (lv1 := [(3, .int (bI (nxUp gl s r (k + 1)))), (5, .int 1), (4, .int (nI k)), (0, .ref h), (1, .int (nI s)), (2, .ref x)]) dX16_isNext_92 (by decide) rfl ?_
                refine g_iinc hX (pc := 93) (v := nI (k + 1)) (lv1 := [(4, .int (nI (k + 1))), (3, .int (bI (nxUp gl s r (k + 1)))), (5, .int 1), (0, .ref h), (1, .int (nI s)), (2, .ref x)]) dX16_isNext_93 2 rfl (nI_1 _) (by decide) rfl ?_
                refine g_goto hX (pc := 96) (tgt := 5) dX16_isNext_96 rfl ?_
                refine g_pk [2, 0, 0] rfl ?_
                refine g_cs (cs1 := [[(h, ob 14 [.ref ha, .ref tr])], wh, wq]) rfl ?_
                refine g_lv (lv1 := [(4, .int (nI (k + 1))), (3, .int (bI (nxUp gl s r (k + 1)))), (0, .ref h), (1, .int (nI s)), (2, .ref x)]) [0, 1, 3, 4, 5] rfl ?_
                refine g_widen (kc1 := 0) (ks1 := 0) (by omega) (by omega) ?_
                exact ih1 (k + 1) (by omega) (by omega)
              · refine g_iconst hX (pc := 86) (v := 1) dX16_isNext_86 (by decide) ?_
                refine g_goto hX (pc := 87) (tgt := 91) dX16_isNext_87 rfl ?_
                refine g_iand hX (pc := 91) dX16_isNext_91 ?_
                refine g_eqi (bI (nxUp gl s r (k + 1))) (nx_1 hgr11 (Or.inr (bI_1.mp c23))) ?_
                refine g_istore_n hX (pc := 92) (lv1 := [(3, .int (bI (nxUp gl s r (k + 1)))), (5, .int 1), (4, .int (nI k)), (0, .ref h), (1, .int (nI s)), (2, .ref x)]) dX16_isNext_92 (by decide) rfl ?_
                refine g_iinc hX (pc := 93) (v := nI (k + 1)) (lv1 := [(4, .int (nI (k + 1))), (3, .int (bI (nxUp gl s r (k + 1)))), (5, .int 1), (0, .ref h), (1, .int (nI s)), (2, .ref x)]) dX16_isNext_93 2 rfl (nI_1 _) (by decide) rfl ?_
                refine g_goto hX (pc := 96) (tgt := 5) dX16_isNext_96 rfl ?_
                refine g_pk [2, 0, 0] rfl ?_
                refine g_cs (cs1 := [[(h, ob 14 [.ref ha, .ref tr])], wh, wq]) rfl ?_
                refine g_lv (lv1 := [(4, .int (nI (k + 1))), (3, .int (bI (nxUp gl s r (k + 1)))), (0, .ref h), (1, .int (nI s)), (2, .ref x)]) [0, 1, 3, 4, 5] rfl ?_
                refine g_widen (kc1 := 0) (ks1 := 0) (by omega) (by omega) ?_
                exact ih1 (k + 1) (by omega) (by omega)
  refine g_widen (kc1 := 0) (ks1 := 0) (by omega) (by omega) ?_
  exact lp7 ((List.length gl - 0) + 1) 0 (Nat.lt_succ_self _) (Nat.zero_le _)

set_option maxHeartbeats 4000000 in
theorem mt_History_isAsOne_0 (E : EE) (l : Launch) (h : Nat) (ha : Nat) (tr : Nat) (f : Nat → Int64) (gl : List PR) (wh : va_W) (wq : va_W) (s : Nat) (v : Nat) (hw : HL E ha gl wq wh) (hl : (hOKl gl)) (hs : (s < 256)) (hv : (v < 100)) (hd : (unsUp s (List.length gl) ≤ 0)) (hT : (TI gl f s)) : Mt E l yX16_isAsOne_2 cX16_isAsOne_2 8 (some .boolean) 5 0 0 90 [.ref h, .int (nI s), .int (nI v)] [[(h, ob 14 [.ref ha, .ref tr])], [(tr, lA (aC E 1) 400 f)], wh, wq] (fun (v_ : Option Value) (cs_ : List va_W) => ∃ (f1 : Nat → Int64), (TS f f1 s) ∧ (LIN gl s v = false → TI gl f1 s) ∧ v_ = some (.int (bI (LIN gl s v))) ∧ cs_ = [[(h, ob 14 [.ref ha, .ref tr])], [(tr, lA (aC E 1) 400 f1)], wh, wq]) := by
  have hl8 := hl.1
  have hat64 : hAt s v / 64 < 400 := by show (s * 100 + v) / 64 < 400; omega
  have hat31 : hAt s v < 2 ^ 31 := by show s * 100 + v < 2 ^ 31; omega
  refine Mt.of (by decide) (Nat.le_of_ble_eq_true rfl) (fun X hX hR hin => ?_)
  refine g_lv1 (lv1 := [(0, .ref h), (1, .int (nI s)), (2, .int (nI v))]) rfl ?_
  obtain ⟨as1, hA2, hal3, hok4, hins5, hera6⟩ := HL.al hw
  refine g_iconst hX (pc := 0) (v := 1) dX16_isAsOne_2_0 (by decide) ?_
  refine g_eqi (bI (dnUp gl s 0)) (rfl) ?_
  refine g_istore_n hX (pc := 1) (lv1 := [(3, .int (bI (dnUp gl s 0))), (0, .ref h), (1, .int (nI s)), (2, .int (nI v))]) dX16_isAsOne_2_1 (by decide) rfl ?_
  refine g_iconst hX (pc := 2) (v := 0) dX16_isAsOne_2_2 (by decide) ?_
  refine g_eqi (nI 0) (nI_0.symm) ?_
  refine g_istore hX (pc := 3) (lv1 := [(4, .int (nI 0)), (3, .int (bI (dnUp gl s 0))), (0, .ref h), (1, .int (nI s)), (2, .int (nI v))]) dX16_isAsOne_2_3 (by decide) rfl ?_
  have lp7 : ∀ (F1 : Nat) (k : Nat), List.length gl - k < F1 → (k ≤ List.length gl) → G E l X [[(h, ob 14 [.ref ha, .ref tr])], [(tr, lA (aC E 1) 400 f)], wh, wq] 0 0 5 [(4, .int (nI k)), (3, .int (bI (dnUp gl s k))), (0, .ref h), (1, .int (nI s)), (2, .int (nI v))] [] := by
    intro F1
    induction F1 with
    | zero =>
      intro k hF hk
      exact absurd hF (Nat.not_lt_zero _)
    | succ F1 ih1 =>
      intro k hF hk
      refine g_iload hX (pc := 5) dX16_isAsOne_2_5 0 rfl ?_
      refine g_aload_n hX (pc := 7) dX16_isAsOne_2_7 2 rfl ?_
      refine g_get hX (pc := 8) fcX16 0 rfl 0 (by decide) q695 rfl (v := .ref ha) rfl dX16_isAsOne_2_8 ?_
      obtain ⟨fs8, hm9⟩ := AL.head hA2
      refine g_callF hX (pc := 11) kfJ2_size (mt_AL_size E l ha as1 wh hA2) q268 fcJ2 (sp_in 2 rfl hm9) [2] rfl rfl rfl (Nat.le_of_ble_eq_true rfl) (Nat.le_of_ble_eq_true rfl) (Nat.le_of_ble_eq_true rfl) (by omega) (by omega) dX16_isAsOne_2_11 (fun v w1 hp => ?_)
      obtain ⟨rfl, rfl⟩ := hp
      refine g_nrm (cs1 := [wh, [(h, ob 14 [.ref ha, .ref tr])], [(tr, lA (aC E 1) 400 f)], wq]) (st1 := [.int (nI (List.length as1)), .int (nI k)]) rfl rfl ?_
      refine g_eqi (nI (List.length gl)) (by rw [hal3]) ?_
      refine g_icmp_ge hX (pc := 16) (tgt := 63) dX16_isAsOne_2_16 rfl (fun c10 => ?_) (fun c10 => ?_)
      · have d1 : k = List.length gl := by
          have := (nI_leI (by omega) (by omega)).mp c10
          omega
        refine g_iload_n hX (pc := 63) dX16_isAsOne_2_63 1 rfl ?_
        refine g_if_eq hX (pc := 64) (tgt := 69) dX16_isAsOne_2_64 rfl (fun c11_ => ?_) (fun c11_ => ?_)
        · have c11 := bI_0.mp c11_
          have hdn : dnUp gl s (List.length gl) = false := by rw [← d1]; exact c11
          refine g_iload_n hX (pc := 69) dX16_isAsOne_2_69 3 rfl ?_
          refine g_bipush hX (pc := 70) (v := 100) dX16_isAsOne_2_70 (by decide) ?_
          refine g_imul hX (pc := 72) dX16_isAsOne_2_72 ?_
          refine g_eqi (nI (s * 100)) (by rw [show (100 : Int32) = nI 100 from rfl, pk_mul]) ?_
          refine g_iload_n hX (pc := 73) dX16_isAsOne_2_73 4 rfl ?_
          refine g_iadd hX (pc := 74) dX16_isAsOne_2_74 ?_
          refine g_eqi (nI (hAt s v)) (nI_add _ _) ?_
          refine g_istore hX (pc := 75) (lv1 := [(4, .int (nI (hAt s v))), (3, .int (bI (dnUp gl s k))), (0, .ref h), (1, .int (nI s)), (2, .int (nI v))]) dX16_isAsOne_2_75 (by decide) rfl ?_
          refine g_aload_n hX (pc := 77) dX16_isAsOne_2_77 2 rfl ?_
          refine g_get hX (pc := 78) fcX16 1 rfl 1 (by decide) q696 rfl (v := .ref tr) rfl dX16_isAsOne_2_78 ?_
          refine g_iload hX (pc := 81) dX16_isAsOne_2_81 0 rfl ?_
          refine g_bipush hX (pc := 83) (v := 64) dX16_isAsOne_2_83 (by decide) ?_
          refine g_idiv hX (pc := 85) dX16_isAsOne_2_85 (by decide) ?_
          refine g_eqi (nI (hAt s v / 64)) (by rw [show (64 : Int32) = nI 64 from rfl, pk_div (by omega) (by omega) (by omega)]) ?_
          refine g_lald hX (pc := 86) (sp_mem (i := 2) rfl) (v := f (hAt s v / 64)) (vp_in_nI hat64 (by omega)) (by rw [nI_clamp (by omega)]) dX16_isAsOne_2_86 ?_
          refine g_iload hX (pc := 87) dX16_isAsOne_2_87 0 rfl ?_
          refine g_bipush hX (pc := 89) (v := 64) dX16_isAsOne_2_89 (by decide) ?_
          refine g_irem hX (pc := 91) dX16_isAsOne_2_91 (by decide) ?_
          refine g_eqi (nI (hAt s v % 64)) (by rw [show (64 : Int32) = nI 64 from rfl, pk_rem (by omega) (by omega) (by omega)]) ?_
          refine g_lshr hX (pc := 92) (v := (f (hAt s v / 64)) >>> (Int32.toInt64 (nI (hAt s v % 64)) &&& 63)) dX16_isAsOne_2_92 rfl ?_
          refine g_lconst hX (pc := 93) (v := 1) dX16_isAsOne_2_93 (by decide) ?_
          refine g_land hX (pc := 94) dX16_isAsOne_2_94 ?_
          refine g_lconst hX (pc := 95) (v := 1) dX16_isAsOne_2_95 (by decide) ?_
          refine g_lcmp hX (pc := 96) dX16_isAsOne_2_96 ?_
          refine g_if_ne hX (pc := 97) (tgt := 102) dX16_isAsOne_2_97 rfl (fun c12 => ?_) (fun c12 => ?_)
          · refine g_aload_n hX (pc := 102) dX16_isAsOne_2_102 2 rfl ?_
            refine g_get hX (pc := 103) fcX16 1 rfl 1 (by decide) q696 rfl (v := .ref tr) rfl dX16_isAsOne_2_103 ?_
            refine g_iload hX (pc := 106) dX16_isAsOne_2_106 0 rfl ?_
            refine g_bipush hX (pc := 108) (v := 64) dX16_isAsOne_2_108 (by decide) ?_
            refine g_idiv hX (pc := 110) dX16_isAsOne_2_110 (by decide) ?_
            refine g_eqi (nI (hAt s v / 64)) (by rw [show (64 : Int32) = nI 64 from rfl, pk_div (by omega) (by omega) (by omega)]) ?_
            refine g_dup2_11 hX (pc := 111) dX16_isAsOne_2_111 rfl rfl ?_
            refine g_lald hX (pc := 112) (sp_mem (i := 2) rfl) (v := f (hAt s v / 64)) (vp_in_nI hat64 (by omega)) (by rw [nI_clamp (by omega)]) dX16_isAsOne_2_112 ?_
            refine g_lconst hX (pc := 113) (v := 1) dX16_isAsOne_2_113 (by decide) ?_
            refine g_iload hX (pc := 114) dX16_isAsOne_2_114 0 rfl ?_
            refine g_bipush hX (pc := 116) (v := 64) dX16_isAsOne_2_116 (by decide) ?_
            refine g_irem hX (pc := 118) dX16_isAsOne_2_118 (by decide) ?_
            refine g_eqi (nI (hAt s v % 64)) (by rw [show (64 : Int32) = nI 64 from rfl, pk_rem (by omega) (by omega) (by omega)]) ?_
            refine g_lshl hX (pc := 119) (v := 1 <<< (Int32.toInt64 (nI (hAt s v % 64)) &&& 63)) dX16_isAsOne_2_119 rfl ?_
            refine g_lor hX (pc := 120) dX16_isAsOne_2_120 ?_
            refine g_last hX (pc := 121) (f1 := (vp_updL f (hAt s v / 64) (f (hAt s v / 64) ||| 1 <<< (Int32.toInt64 (nI (hAt s v % 64)) &&& 63)))) (cs1 := [wh, [(h, ob 14 [.ref ha, .ref tr])], [(tr, lA (aC E 1) 400 (vp_updL f (hAt s v / 64) (f (hAt s v / 64) ||| 1 <<< (Int32.toInt64 (nI (hAt s v % 64)) &&& 63))))], wq]) 2 rfl (vp_in_nI hat64 (by omega)) (by rw [nI_clamp (by omega)]) rfl dX16_isAsOne_2_121 ?_
            obtain ⟨hJ0, hS0⟩ := TJ.mark hT hv
            generalize (vp_updL f (hAt s v / 64) (f (hAt s v / 64) ||| 1 <<< (Int32.toInt64 (nI (hAt s v % 64)) &&& 63))) = f2 at hJ0 hS0 ⊢
            refine g_iconst hX (pc := 122) (v := 0) dX16_isAsOne_2_122 (by decide) ?_
            refine g_eqi (nI 0) (nI_0.symm) ?_
            refine g_istore hX (pc := 123) (lv1 := [(5, .int (nI 0)), (4, .int (nI (hAt s v))), (3, .int (bI (dnUp gl s k))), (0, .ref h), (1, .int (nI s)), (2, .int (nI v))]) dX16_isAsOne_2_123 (by decide) rfl ?_
            have lp13 : ∀ (F2 : Nat) (i : Nat) (g : Nat → Int64), List.length gl - i < F2 → (i ≤ List.length gl) → (TJ gl g s v) → (TS f g s) → (anyUp gl s v i = false) → G E l X [[(h, ob 14 [.ref ha, .ref tr])], [(tr, lA (aC E 1) 400 g)], wh, wq] 0 0 125 [(5, .int (nI i)), (0, .ref h), (1, .int (nI s)), (2, .int (nI v))] [] := by
              intro F2
              induction F2 with
              | zero =>
                intro i g hF hi hJ hS hany
                exact absurd hF (Nat.not_lt_zero _)
              | succ F2 ih2 =>
                intro i g hF hi hJ hS hany
                refine g_iload hX (pc := 125) dX16_isAsOne_2_125 0 rfl ?_
                refine g_aload_n hX (pc := 127) dX16_isAsOne_2_127 1 rfl ?_
                refine g_get hX (pc := 128) fcX16 0 rfl 0 (by decide) q695 rfl (v := .ref ha) rfl dX16_isAsOne_2_128 ?_
                refine g_callF hX (pc := 131) kfJ2_size (mt_AL_size E l ha as1 wh hA2) q268 fcJ2 (sp_in 2 rfl hm9) [2] rfl rfl rfl (Nat.le_of_ble_eq_true rfl) (Nat.le_of_ble_eq_true rfl) (Nat.le_of_ble_eq_true rfl) (by omega) (by omega) dX16_isAsOne_2_131 (fun v w1 hp => ?_)
                obtain ⟨rfl, rfl⟩ := hp
                refine g_nrm (cs1 := [wh, [(h, ob 14 [.ref ha, .ref tr])], [(tr, lA (aC E 1) 400 g)], wq]) (st1 := [.int (nI (List.length as1)), .int (nI i)]) rfl rfl ?_
                refine g_eqi (nI (List.length gl)) (by rw [hal3]) ?_
                refine g_icmp_ge hX (pc := 136) (tgt := 235) dX16_isAsOne_2_136 rfl (fun c14 => ?_) (fun c14 => ?_)
                · have d2 : i = List.length gl := by
                    have := (nI_leI (by omega) (by omega)).mp c14
                    omega
                  have hany2 : anyUp gl s v (List.length gl) = false := by rw [← d2]; exact hany
                  refine g_iconst hX (pc := 235) (v := 0) dX16_isAsOne_2_235 (by decide) ?_
                  refine g_pk [1, 1, 0, 0] rfl ?_
                  refine g_cs (cs1 := [[(h, ob 14 [.ref ha, .ref tr])], [(tr, lA (aC E 1) 400 g)], wh, wq]) rfl ?_
                  refine g_zret hX (pc := 236) hR rfl ?_ (by omega) (by omega) dX16_isAsOne_2_236
                  have hL := LIN_n hl.1 (v := v) hdn hany2
                  rw [hL]
                  exact ⟨_, hS, fun _ => hJ.done hL, rfl, rfl⟩
                · have d2 : i < List.length gl := by
                    have := mt (nI_leI (by omega) (by omega)).mpr c14
                    omega
                  obtain ⟨r15, hgr15⟩ := get_ex (l := gl) (i := i) (d2)
                  obtain ⟨as16, y17, hA18, hl19, hk20, hm21⟩ := HL.at hw hgr15
                  refine g_aload_n hX (pc := 139) dX16_isAsOne_2_139 1 rfl ?_
                  refine g_get hX (pc := 140) fcX16 1 rfl 0 (by decide) q695 rfl (v := .ref ha) rfl dX16_isAsOne_2_140 ?_
                  refine g_iload hX (pc := 143) dX16_isAsOne_2_143 0 rfl ?_
                  refine g_callF hX (pc := 145) kfJ2_get (mt_AL_get E l ha as16 wh i y17 hA18 (hk20)) q270 fcJ2 (sp_in 0 rfl hm9) [0] rfl rfl rfl (Nat.le_of_ble_eq_true rfl) (Nat.le_of_ble_eq_true rfl) (Nat.le_of_ble_eq_true rfl) (by omega) (by omega) dX16_isAsOne_2_145 (fun v w1 hp => ?_)
                  obtain ⟨rfl, rfl⟩ := hp
                  refine g_nrm (cs1 := [wh, [(h, ob 14 [.ref ha, .ref tr])], [(tr, lA (aC E 1) 400 g)], wq]) (st1 := [.ref y17]) rfl rfl ?_
                  refine g_cast hX (pc := 150) fcX12 (sp_in 3 rfl hm21) q271 dX16_isAsOne_2_150 ?_
                  refine g_astore hX (pc := 153) (lv1 := [(6, .ref y17), (5, .int (nI i)), (0, .ref h), (1, .int (nI s)), (2, .int (nI v))]) dX16_isAsOne_2_153 (by decide) rfl ?_
                  refine g_iload_n hX (pc := 155) dX16_isAsOne_2_155 3 rfl ?_
                  refine g_iload hX (pc := 156) dX16_isAsOne_2_156 1 rfl ?_
                  refine g_ishr hX (pc := 158) dX16_isAsOne_2_158 ?_
                  refine g_iconst hX (pc := 159) (v := 1) dX16_isAsOne_2_159 (by decide) ?_
                  refine g_iand hX (pc := 160) dX16_isAsOne_2_160 ?_
                  refine g_eqi (bI (Nat.testBit s i)) (sb_get s hs i (by omega)) ?_
                  refine g_if_ne hX (pc := 161) (tgt := 200) dX16_isAsOne_2_161 rfl (fun c22_ => ?_) (fun c22_ => ?_)
                  · have c22 := mt bI_0.mpr c22_
                    refine g_iconst hX (pc := 200) (v := 0) dX16_isAsOne_2_200 (by decide) ?_
                    refine g_istore hX (pc := 201) (lv1 := [(7, .int 0), (6, .ref y17), (5, .int (nI i)), (0, .ref h), (1, .int (nI s)), (2, .int (nI v))]) dX16_isAsOne_2_201 (by decide) rfl ?_
                    refine g_iload hX (pc := 203) dX16_isAsOne_2_203 0 rfl ?_
                    refine g_if_eq hX (pc := 205) (tgt := 229) dX16_isAsOne_2_205 rfl (fun c23 => ?_) (fun c23 => ?_)
                    · refine g_iinc hX (pc := 229) (v := nI (i + 1)) (lv1 := [(5, .int (nI (i + 1))), (7, .int 0), (6, .ref y17), (0, .ref h), (1, .int (nI s)), (2, .int (nI v))]) dX16_isAsOne_2_229 2 rfl (nI_1 _) (by decide) rfl ?_
                      refine g_goto hX (pc := 232) (tgt := 125) dX16_isAsOne_2_232 rfl ?_
                      refine g_pk [1, 1, 0, 0] rfl ?_
                      refine g_cs (cs1 := [[(h, ob 14 [.ref ha, .ref tr])], [(tr, lA (aC E 1) 400 g)], wh, wq]) rfl ?_
                      refine g_lv (lv1 := [(5, .int (nI (i + 1))), (0, .ref h), (1, .int (nI s)), (2, .int (nI v))]) [0, 3, 4, 5] rfl ?_
                      refine g_widen (kc1 := 0) (ks1 := 0) (by omega) (by omega) ?_
                      exact ih2 (i + 1) g (by omega) (by omega) (hJ) (hS) (any_n hgr15 hany (Or.inl (by simpa using c22)))
                    · exact absurd c23 (by decide)
                  · have c22 := bI_0.mp c22_
                    have hb : Nat.testBit s i = false := c22
                    refine g_aload_n hX (pc := 164) dX16_isAsOne_2_164 2 rfl ?_
                    refine g_iload_n hX (pc := 165) dX16_isAsOne_2_165 3 rfl ?_
                    refine g_aload hX (pc := 166) dX16_isAsOne_2_166 0 rfl ?_
                    refine g_callV hX (pc := 168) kX16_isNext (mt_History_isNext E l h ha tr gl wh wq s y17 r15 hw (hm21) (hl.1) (hs)) q714 fcX16 (sp_mem (i := 1) rfl) [1, 0, 1] rfl rfl rfl (Nat.le_of_ble_eq_true rfl) (Nat.le_of_ble_eq_true rfl) (Nat.le_of_ble_eq_true rfl) (by omega) (by omega) dX16_isAsOne_2_168 (fun v w1 hp => ?_)
                    obtain ⟨rfl, rfl⟩ := hp
                    refine g_nrm (cs1 := [[(h, ob 14 [.ref ha, .ref tr])], wh, wq, [(tr, lA (aC E 1) 400 g)]]) (st1 := [.int (bI (nxUp gl s r15 (List.length gl)))]) rfl rfl ?_
                    refine g_if_eq hX (pc := 171) (tgt := 200) dX16_isAsOne_2_171 rfl (fun c24_ => ?_) (fun c24_ => ?_)
                    · have c24 := bI_0.mp c24_
                      refine g_iconst hX (pc := 200) (v := 0) dX16_isAsOne_2_200 (by decide) ?_
                      refine g_istore hX (pc := 201) (lv1 := [(7, .int 0), (6, .ref y17), (5, .int (nI i)), (0, .ref h), (1, .int (nI s)), (2, .int (nI v))]) dX16_isAsOne_2_201 (by decide) rfl ?_
                      refine g_iload hX (pc := 203) dX16_isAsOne_2_203 0 rfl ?_
                      refine g_if_eq hX (pc := 205) (tgt := 229) dX16_isAsOne_2_205 rfl (fun c25 => ?_) (fun c25 => ?_)
                      · refine g_iinc hX (pc := 229) (v := nI (i + 1)) (lv1 := [(5, .int (nI (i + 1))), (7, .int 0), (6, .ref y17), (0, .ref h), (1, .int (nI s)), (2, .int (nI v))]) dX16_isAsOne_2_229 2 rfl (nI_1 _) (by decide) rfl ?_
                        refine g_goto hX (pc := 232) (tgt := 125) dX16_isAsOne_2_232 rfl ?_
                        refine g_pk [0, 2, 0, 0] rfl ?_
                        refine g_cs (cs1 := [[(h, ob 14 [.ref ha, .ref tr])], [(tr, lA (aC E 1) 400 g)], wh, wq]) rfl ?_
                        refine g_lv (lv1 := [(5, .int (nI (i + 1))), (0, .ref h), (1, .int (nI s)), (2, .int (nI v))]) [0, 3, 4, 5] rfl ?_
                        refine g_widen (kc1 := 0) (ks1 := 0) (by omega) (by omega) ?_
                        exact ih2 (i + 1) g (by omega) (by omega) (hJ) (hS) (any_n hgr15 hany (Or.inr (Or.inl (can_n1 c24))))
                      · exact absurd c25 (by decide)
                    · have c24 := mt bI_0.mpr c24_
                      refine g_aload hX (pc := 174) dX16_isAsOne_2_174 0 rfl ?_
                      refine g_callV hX (pc := 176) kX12_isAnswered (mt_Request_isAnsweredM E l y17 r15 wq (hm21)) q710 fcX12 (sp_in 2 rfl hm21) [2] rfl rfl rfl (Nat.le_of_ble_eq_true rfl) (Nat.le_of_ble_eq_true rfl) (Nat.le_of_ble_eq_true rfl) (by omega) (by omega) dX16_isAsOne_2_176 (fun v w1 hp => ?_)
                      obtain ⟨rfl, rfl⟩ := hp
                      refine g_nrm (cs1 := [wq, [(h, ob 14 [.ref ha, .ref tr])], wh, [(tr, lA (aC E 1) 400 g)]]) (st1 := [.int (if rAns r15 = (-1) then 0 else 1)]) rfl rfl ?_
                      refine g_if_eq hX (pc := 179) (tgt := 196) dX16_isAsOne_2_179 rfl (fun c26_ => ?_) (fun c26_ => ?_)
                      · have c26 := z01.mp c26_
                        refine g_iconst hX (pc := 196) (v := 1) dX16_isAsOne_2_196 (by decide) ?_
                        refine g_goto hX (pc := 197) (tgt := 201) dX16_isAsOne_2_197 rfl ?_
                        refine g_istore hX (pc := 201) (lv1 := [(7, .int 1), (6, .ref y17), (5, .int (nI i)), (0, .ref h), (1, .int (nI s)), (2, .int (nI v))]) dX16_isAsOne_2_201 (by decide) rfl ?_
                        refine g_iload hX (pc := 203) dX16_isAsOne_2_203 0 rfl ?_
                        refine g_if_eq hX (pc := 205) (tgt := 229) dX16_isAsOne_2_205 rfl (fun c27 => ?_) (fun c27 => ?_)
                        · exact absurd c27 (by decide)
                        · refine g_aload_n hX (pc := 208) dX16_isAsOne_2_208 3 rfl ?_
                          refine g_iload_n hX (pc := 209) dX16_isAsOne_2_209 4 rfl ?_
                          refine g_iconst hX (pc := 210) (v := 1) dX16_isAsOne_2_210 (by decide) ?_
                          refine g_iload hX (pc := 211) dX16_isAsOne_2_211 2 rfl ?_
                          refine g_ishl hX (pc := 213) dX16_isAsOne_2_213 ?_
                          refine g_ior hX (pc := 214) dX16_isAsOne_2_214 ?_
                          refine g_eqi (nI (s ||| 1 <<< i)) (sb_or s hs i (by omega)) ?_
                          refine g_aload hX (pc := 215) dX16_isAsOne_2_215 1 rfl ?_
                          refine g_iload_n hX (pc := 217) dX16_isAsOne_2_217 5 rfl ?_
                          refine g_callV hX (pc := 218) kX12_behind (mt_Request_behindM E l y17 r15 wq (nI v) (hm21) ((hl.2 r15 (List.mem_of_getElem? hgr15)).1)) q722 fcX12 (sp_in 0 rfl hm21) [0] rfl rfl rfl (Nat.le_of_ble_eq_true rfl) (Nat.le_of_ble_eq_true rfl) (Nat.le_of_ble_eq_true rfl) (by omega) (by omega) dX16_isAsOne_2_218 (fun v w1 hp => ?_)
                          obtain ⟨rfl, rfl⟩ := hp
                          refine g_nrm (cs1 := [wq, [(h, ob 14 [.ref ha, .ref tr])], wh, [(tr, lA (aC E 1) 400 g)]]) (st1 := [.int (rqBeh (rK r15) (rA r15) (rB r15) (nI v)), .int (nI (s ||| 1 <<< i)), .ref h]) rfl rfl ?_
                          refine g_eqi (nI (hBeh r15 v)) ((beh_ok (hl.2 r15 (List.mem_of_getElem? hgr15)).2 hv).1) ?_
                          exact absurd hd (uns_0 d2 hb)
                      · have c26 := z01n.mp c26_
                        refine g_aload hX (pc := 182) dX16_isAsOne_2_182 0 rfl ?_
                        refine g_iload_n hX (pc := 184) dX16_isAsOne_2_184 4 rfl ?_
                        refine g_callV hX (pc := 185) kX12_told (mt_Request_toldM E l y17 r15 wq (nI v) (hm21) ((hl.2 r15 (List.mem_of_getElem? hgr15)).1)) q718 fcX12 (sp_in 0 rfl hm21) [0] rfl rfl rfl (Nat.le_of_ble_eq_true rfl) (Nat.le_of_ble_eq_true rfl) (Nat.le_of_ble_eq_true rfl) (by omega) (by omega) dX16_isAsOne_2_185 (fun v w1 hp => ?_)
                        obtain ⟨rfl, rfl⟩ := hp
                        refine g_nrm (cs1 := [wq, [(h, ob 14 [.ref ha, .ref tr])], wh, [(tr, lA (aC E 1) 400 g)]]) (st1 := [.int (rqTold (rK r15) (rA r15) (nI v))]) rfl rfl ?_
                        refine g_aload hX (pc := 188) dX16_isAsOne_2_188 0 rfl ?_
                        refine g_getNm hX (pc := 190) fcX12 (sp_in 0 rfl hm21) 5 (by decide) q1005 rfl (v := .int (rRes r15)) rfl dX16_isAsOne_2_190 ?_
                        refine g_icmp_ne hX (pc := 193) (tgt := 200) dX16_isAsOne_2_193 rfl (fun c28 => ?_) (fun c28 => ?_)
                        · refine g_iconst hX (pc := 200) (v := 0) dX16_isAsOne_2_200 (by decide) ?_
                          refine g_istore hX (pc := 201) (lv1 := [(7, .int 0), (6, .ref y17), (5, .int (nI i)), (0, .ref h), (1, .int (nI s)), (2, .int (nI v))]) dX16_isAsOne_2_201 (by decide) rfl ?_
                          refine g_iload hX (pc := 203) dX16_isAsOne_2_203 0 rfl ?_
                          refine g_if_eq hX (pc := 205) (tgt := 229) dX16_isAsOne_2_205 rfl (fun c29 => ?_) (fun c29 => ?_)
                          · refine g_iinc hX (pc := 229) (v := nI (i + 1)) (lv1 := [(5, .int (nI (i + 1))), (7, .int 0), (6, .ref y17), (0, .ref h), (1, .int (nI s)), (2, .int (nI v))]) dX16_isAsOne_2_229 2 rfl (nI_1 _) (by decide) rfl ?_
                            refine g_goto hX (pc := 232) (tgt := 125) dX16_isAsOne_2_232 rfl ?_
                            refine g_pk [1, 2, 1, 0] rfl ?_
                            refine g_cs (cs1 := [[(h, ob 14 [.ref ha, .ref tr])], [(tr, lA (aC E 1) 400 g)], wh, wq]) rfl ?_
                            refine g_lv (lv1 := [(5, .int (nI (i + 1))), (0, .ref h), (1, .int (nI s)), (2, .int (nI v))]) [0, 3, 4, 5] rfl ?_
                            refine g_widen (kc1 := 0) (ks1 := 0) (by omega) (by omega) ?_
                            exact ih2 (i + 1) g (by omega) (by omega) (hJ) (hS) (any_n hgr15 hany (Or.inr (Or.inl (can_n2 c26 c28))))
                          · exact absurd c29 (by decide)
                        · refine g_iconst hX (pc := 196) (v := 1) dX16_isAsOne_2_196 (by decide) ?_
                          refine g_goto hX (pc := 197) (tgt := 201) dX16_isAsOne_2_197 rfl ?_
                          refine g_istore hX (pc := 201) (lv1 := [(7, .int 1), (6, .ref y17), (5, .int (nI i)), (0, .ref h), (1, .int (nI s)), (2, .int (nI v))]) dX16_isAsOne_2_201 (by decide) rfl ?_
                          refine g_iload hX (pc := 203) dX16_isAsOne_2_203 0 rfl ?_
                          refine g_if_eq hX (pc := 205) (tgt := 229) dX16_isAsOne_2_205 rfl (fun c30 => ?_) (fun c30 => ?_)
                          · exact absurd c30 (by decide)
                          · refine g_aload_n hX (pc := 208) dX16_isAsOne_2_208 3 rfl ?_
                            refine g_iload_n hX (pc := 209) dX16_isAsOne_2_209 4 rfl ?_
                            refine g_iconst hX (pc := 210) (v := 1) dX16_isAsOne_2_210 (by decide) ?_
                            refine g_iload hX (pc := 211) dX16_isAsOne_2_211 2 rfl ?_
                            refine g_ishl hX (pc := 213) dX16_isAsOne_2_213 ?_
                            refine g_ior hX (pc := 214) dX16_isAsOne_2_214 ?_
                            refine g_eqi (nI (s ||| 1 <<< i)) (sb_or s hs i (by omega)) ?_
                            refine g_aload hX (pc := 215) dX16_isAsOne_2_215 1 rfl ?_
                            refine g_iload_n hX (pc := 217) dX16_isAsOne_2_217 5 rfl ?_
                            refine g_callV hX (pc := 218) kX12_behind (mt_Request_behindM E l y17 r15 wq (nI v) (hm21) ((hl.2 r15 (List.mem_of_getElem? hgr15)).1)) q722 fcX12 (sp_in 0 rfl hm21) [0] rfl rfl rfl (Nat.le_of_ble_eq_true rfl) (Nat.le_of_ble_eq_true rfl) (Nat.le_of_ble_eq_true rfl) (by omega) (by omega) dX16_isAsOne_2_218 (fun v w1 hp => ?_)
                            obtain ⟨rfl, rfl⟩ := hp
                            refine g_nrm (cs1 := [wq, [(h, ob 14 [.ref ha, .ref tr])], wh, [(tr, lA (aC E 1) 400 g)]]) (st1 := [.int (rqBeh (rK r15) (rA r15) (rB r15) (nI v)), .int (nI (s ||| 1 <<< i)), .ref h]) rfl rfl ?_
                            refine g_eqi (nI (hBeh r15 v)) ((beh_ok (hl.2 r15 (List.mem_of_getElem? hgr15)).2 hv).1) ?_
                            exact absurd hd (uns_0 d2 hb)
            refine g_pk [1, 1, 0, 0] rfl ?_
            refine g_cs (cs1 := [[(h, ob 14 [.ref ha, .ref tr])], [(tr, lA (aC E 1) 400 f2)], wh, wq]) rfl ?_
            refine g_lv (lv1 := [(5, .int (nI 0)), (0, .ref h), (1, .int (nI s)), (2, .int (nI v))]) [0, 3, 4, 5] rfl ?_
            refine g_widen (kc1 := 0) (ks1 := 0) (by omega) (by omega) ?_
            exact lp13 ((List.length gl - 0) + 1) 0 f2 (Nat.lt_succ_self _) (Nat.zero_le _) (hJ0) (hS0) (rfl)
          · refine g_iconst hX (pc := 100) (v := 0) dX16_isAsOne_2_100 (by decide) ?_
            refine g_pk [1, 1, 0, 0] rfl ?_
            refine g_cs (cs1 := [[(h, ob 14 [.ref ha, .ref tr])], [(tr, lA (aC E 1) 400 f)], wh, wq]) rfl ?_
            refine g_zret hX (pc := 101) hR rfl ?_ (by omega) (by omega) dX16_isAsOne_2_101
            have hL := hT s v (Nat.le_refl _) hv (lcmp_1.mp c12)
            rw [hL]
            exact ⟨_, fun _ _ _ _ => rfl, fun _ => hT, rfl, rfl⟩
        · have c11 := mt bI_0.mpr c11_
          refine g_iconst hX (pc := 67) (v := 1) dX16_isAsOne_2_67 (by decide) ?_
          refine g_pk [1, 1, 0, 0] rfl ?_
          refine g_cs (cs1 := [[(h, ob 14 [.ref ha, .ref tr])], [(tr, lA (aC E 1) 400 f)], wh, wq]) rfl ?_
          refine g_zret hX (pc := 68) hR rfl ?_ (by omega) (by omega) dX16_isAsOne_2_68
          have hL := LIN_d hl.1 (v := v) (by rw [← d1]; simpa using c11)
          rw [hL]
          exact ⟨_, fun _ _ _ _ => rfl, fun z => absurd z (by decide), rfl, rfl⟩
      · have d1 : k < List.length gl := by
          have := mt (nI_leI (by omega) (by omega)).mpr c10
          omega
        obtain ⟨r31, hgr31⟩ := get_ex (l := gl) (i := k) (d1)
        obtain ⟨as32, y33, hA34, hl35, hk36, hm37⟩ := HL.at hw hgr31
        refine g_iload_n hX (pc := 19) dX16_isAsOne_2_19 1 rfl ?_
        refine g_iload_n hX (pc := 20) dX16_isAsOne_2_20 3 rfl ?_
        refine g_iload hX (pc := 21) dX16_isAsOne_2_21 0 rfl ?_
        refine g_ishr hX (pc := 23) dX16_isAsOne_2_23 ?_
        refine g_iconst hX (pc := 24) (v := 1) dX16_isAsOne_2_24 (by decide) ?_
        refine g_iand hX (pc := 25) dX16_isAsOne_2_25 ?_
        refine g_eqi (bI (Nat.testBit s k)) (sb_get s hs k (by omega)) ?_
        refine g_iconst hX (pc := 26) (v := 1) dX16_isAsOne_2_26 (by decide) ?_
        refine g_icmp_eq hX (pc := 27) (tgt := 50) dX16_isAsOne_2_27 rfl (fun c38 => ?_) (fun c38 => ?_)
        · refine g_iconst hX (pc := 50) (v := 1) dX16_isAsOne_2_50 (by decide) ?_
          refine g_goto hX (pc := 51) (tgt := 55) dX16_isAsOne_2_51 rfl ?_
          refine g_iand hX (pc := 55) dX16_isAsOne_2_55 ?_
          refine g_eqi (bI (dnUp gl s (k + 1))) (dn_1 (Or.inl (bI_1.mp c38))) ?_
          refine g_istore_n hX (pc := 56) (lv1 := [(3, .int (bI (dnUp gl s (k + 1)))), (4, .int (nI k)), (0, .ref h), (1, .int (nI s)), (2, .int (nI v))]) dX16_isAsOne_2_56 (by decide) rfl ?_
          refine g_iinc hX (pc := 57) (v := nI (k + 1)) (lv1 := [(4, .int (nI (k + 1))), (3, .int (bI (dnUp gl s (k + 1)))), (0, .ref h), (1, .int (nI s)), (2, .int (nI v))]) dX16_isAsOne_2_57 1 rfl (nI_1 _) (by decide) rfl ?_
          refine g_goto hX (pc := 60) (tgt := 5) dX16_isAsOne_2_60 rfl ?_
          refine g_pk [1, 1, 0, 0] rfl ?_
          refine g_cs (cs1 := [[(h, ob 14 [.ref ha, .ref tr])], [(tr, lA (aC E 1) 400 f)], wh, wq]) rfl ?_
          refine g_widen (kc1 := 0) (ks1 := 0) (by omega) (by omega) ?_
          exact ih1 (k + 1) (by omega) (by omega)
        · refine g_aload_n hX (pc := 30) dX16_isAsOne_2_30 2 rfl ?_
          refine g_get hX (pc := 31) fcX16 1 rfl 0 (by decide) q695 rfl (v := .ref ha) rfl dX16_isAsOne_2_31 ?_
          refine g_iload hX (pc := 34) dX16_isAsOne_2_34 0 rfl ?_
          refine g_callF hX (pc := 36) kfJ2_get (mt_AL_get E l ha as32 wh k y33 hA34 (hk36)) q270 fcJ2 (sp_in 0 rfl hm9) [0] rfl rfl rfl (Nat.le_of_ble_eq_true rfl) (Nat.le_of_ble_eq_true rfl) (Nat.le_of_ble_eq_true rfl) (by omega) (by omega) dX16_isAsOne_2_36 (fun v w1 hp => ?_)
          obtain ⟨rfl, rfl⟩ := hp
          refine g_nrm (cs1 := [wh, [(h, ob 14 [.ref ha, .ref tr])], [(tr, lA (aC E 1) 400 f)], wq]) (st1 := [.ref y33, .int (bI (dnUp gl s k))]) rfl rfl ?_
          refine g_cast hX (pc := 41) fcX12 (sp_in 3 rfl hm37) q271 dX16_isAsOne_2_41 ?_
          refine g_callV hX (pc := 44) kX12_isAnswered (mt_Request_isAnsweredM E l y33 r31 wq (hm37)) q710 fcX12 (sp_in 3 rfl hm37) [3] rfl rfl rfl (Nat.le_of_ble_eq_true rfl) (Nat.le_of_ble_eq_true rfl) (Nat.le_of_ble_eq_true rfl) (by omega) (by omega) dX16_isAsOne_2_44 (fun v w1 hp => ?_)
          obtain ⟨rfl, rfl⟩ := hp
          refine g_nrm (cs1 := [wq, wh, [(h, ob 14 [.ref ha, .ref tr])], [(tr, lA (aC E 1) 400 f)]]) (st1 := [.int (if rAns r31 = (-1) then 0 else 1), .int (bI (dnUp gl s k))]) rfl rfl ?_
          refine g_if_ne hX (pc := 47) (tgt := 54) dX16_isAsOne_2_47 rfl (fun c39_ => ?_) (fun c39_ => ?_)
          · have c39 := z01n.mp c39_
            refine g_iconst hX (pc := 54) (v := 0) dX16_isAsOne_2_54 (by decide) ?_
            refine g_iand hX (pc := 55) dX16_isAsOne_2_55 ?_
            refine g_eqi (bI (dnUp gl s (k + 1))) (dn_0 (fun z => c38 (bI_1.mpr z)) (by rw [hG_e hgr31]; exact c39)) ?_
            refine g_istore_n hX (pc := 56) (lv1 := [(3, .int (bI (dnUp gl s (k + 1)))), (4, .int (nI k)), (0, .ref h), (1, .int (nI s)), (2, .int (nI v))]) dX16_isAsOne_2_56 (by decide) rfl ?_
            refine g_iinc hX (pc := 57) (v := nI (k + 1)) (lv1 := [(4, .int (nI (k + 1))), (3, .int (bI (dnUp gl s (k + 1)))), (0, .ref h), (1, .int (nI s)), (2, .int (nI v))]) dX16_isAsOne_2_57 1 rfl (nI_1 _) (by decide) rfl ?_
            refine g_goto hX (pc := 60) (tgt := 5) dX16_isAsOne_2_60 rfl ?_
            refine g_pk [2, 2, 1, 0] rfl ?_
            refine g_cs (cs1 := [[(h, ob 14 [.ref ha, .ref tr])], [(tr, lA (aC E 1) 400 f)], wh, wq]) rfl ?_
            refine g_widen (kc1 := 0) (ks1 := 0) (by omega) (by omega) ?_
            exact ih1 (k + 1) (by omega) (by omega)
          · have c39 := z01.mp c39_
            refine g_iconst hX (pc := 50) (v := 1) dX16_isAsOne_2_50 (by decide) ?_
            refine g_goto hX (pc := 51) (tgt := 55) dX16_isAsOne_2_51 rfl ?_
            refine g_iand hX (pc := 55) dX16_isAsOne_2_55 ?_
            refine g_eqi (bI (dnUp gl s (k + 1))) (dn_1 (Or.inr (by rw [hG_e hgr31]; exact c39))) ?_
            refine g_istore_n hX (pc := 56) (lv1 := [(3, .int (bI (dnUp gl s (k + 1)))), (4, .int (nI k)), (0, .ref h), (1, .int (nI s)), (2, .int (nI v))]) dX16_isAsOne_2_56 (by decide) rfl ?_
            refine g_iinc hX (pc := 57) (v := nI (k + 1)) (lv1 := [(4, .int (nI (k + 1))), (3, .int (bI (dnUp gl s (k + 1)))), (0, .ref h), (1, .int (nI s)), (2, .int (nI v))]) dX16_isAsOne_2_57 1 rfl (nI_1 _) (by decide) rfl ?_
            refine g_goto hX (pc := 60) (tgt := 5) dX16_isAsOne_2_60 rfl ?_
            refine g_pk [2, 2, 1, 0] rfl ?_
            refine g_cs (cs1 := [[(h, ob 14 [.ref ha, .ref tr])], [(tr, lA (aC E 1) 400 f)], wh, wq]) rfl ?_
            refine g_widen (kc1 := 0) (ks1 := 0) (by omega) (by omega) ?_
            exact ih1 (k + 1) (by omega) (by omega)
  refine g_widen (kc1 := 0) (ks1 := 0) (by omega) (by omega) ?_
  exact lp7 ((List.length gl - 0) + 1) 0 (Nat.lt_succ_self _) (Nat.zero_le _)

set_option maxHeartbeats 4000000 in
theorem mt_History_isAsOne_1 (E : EE) (l : Launch) (h : Nat) (ha : Nat) (tr : Nat) (f : Nat → Int64) (gl : List PR) (wh : va_W) (wq : va_W) (s : Nat) (v : Nat) (hw : HL E ha gl wq wh) (hl : (hOKl gl)) (hs : (s < 256)) (hv : (v < 100)) (hd : (unsUp s (List.length gl) ≤ 1)) (hT : (TI gl f s)) : Mt E l yX16_isAsOne_2 cX16_isAsOne_2 8 (some .boolean) 6 0 0 117 [.ref h, .int (nI s), .int (nI v)] [[(h, ob 14 [.ref ha, .ref tr])], [(tr, lA (aC E 1) 400 f)], wh, wq] (fun (v_ : Option Value) (cs_ : List va_W) => ∃ (f1 : Nat → Int64), (TS f f1 s) ∧ (LIN gl s v = false → TI gl f1 s) ∧ v_ = some (.int (bI (LIN gl s v))) ∧ cs_ = [[(h, ob 14 [.ref ha, .ref tr])], [(tr, lA (aC E 1) 400 f1)], wh, wq]) := by
  have hl8 := hl.1
  have hat64 : hAt s v / 64 < 400 := by show (s * 100 + v) / 64 < 400; omega
  have hat31 : hAt s v < 2 ^ 31 := by show s * 100 + v < 2 ^ 31; omega
  refine Mt.of (by decide) (Nat.le_of_ble_eq_true rfl) (fun X hX hR hin => ?_)
  refine g_lv1 (lv1 := [(0, .ref h), (1, .int (nI s)), (2, .int (nI v))]) rfl ?_
  obtain ⟨as1, hA2, hal3, hok4, hins5, hera6⟩ := HL.al hw
  refine g_iconst hX (pc := 0) (v := 1) dX16_isAsOne_2_0 (by decide) ?_
  refine g_eqi (bI (dnUp gl s 0)) (rfl) ?_
  refine g_istore_n hX (pc := 1) (lv1 := [(3, .int (bI (dnUp gl s 0))), (0, .ref h), (1, .int (nI s)), (2, .int (nI v))]) dX16_isAsOne_2_1 (by decide) rfl ?_
  refine g_iconst hX (pc := 2) (v := 0) dX16_isAsOne_2_2 (by decide) ?_
  refine g_eqi (nI 0) (nI_0.symm) ?_
  refine g_istore hX (pc := 3) (lv1 := [(4, .int (nI 0)), (3, .int (bI (dnUp gl s 0))), (0, .ref h), (1, .int (nI s)), (2, .int (nI v))]) dX16_isAsOne_2_3 (by decide) rfl ?_
  have lp7 : ∀ (F1 : Nat) (k : Nat), List.length gl - k < F1 → (k ≤ List.length gl) → G E l X [[(h, ob 14 [.ref ha, .ref tr])], [(tr, lA (aC E 1) 400 f)], wh, wq] 0 0 5 [(4, .int (nI k)), (3, .int (bI (dnUp gl s k))), (0, .ref h), (1, .int (nI s)), (2, .int (nI v))] [] := by
    intro F1
    induction F1 with
    | zero =>
      intro k hF hk
      exact absurd hF (Nat.not_lt_zero _)
    | succ F1 ih1 =>
      intro k hF hk
      refine g_iload hX (pc := 5) dX16_isAsOne_2_5 0 rfl ?_
      refine g_aload_n hX (pc := 7) dX16_isAsOne_2_7 2 rfl ?_
      refine g_get hX (pc := 8) fcX16 0 rfl 0 (by decide) q695 rfl (v := .ref ha) rfl dX16_isAsOne_2_8 ?_
      obtain ⟨fs8, hm9⟩ := AL.head hA2
      refine g_callF hX (pc := 11) kfJ2_size (mt_AL_size E l ha as1 wh hA2) q268 fcJ2 (sp_in 2 rfl hm9) [2] rfl rfl rfl (Nat.le_of_ble_eq_true rfl) (Nat.le_of_ble_eq_true rfl) (Nat.le_of_ble_eq_true rfl) (by omega) (by omega) dX16_isAsOne_2_11 (fun v w1 hp => ?_)
      obtain ⟨rfl, rfl⟩ := hp
      refine g_nrm (cs1 := [wh, [(h, ob 14 [.ref ha, .ref tr])], [(tr, lA (aC E 1) 400 f)], wq]) (st1 := [.int (nI (List.length as1)), .int (nI k)]) rfl rfl ?_
      refine g_eqi (nI (List.length gl)) (by rw [hal3]) ?_
      refine g_icmp_ge hX (pc := 16) (tgt := 63) dX16_isAsOne_2_16 rfl (fun c10 => ?_) (fun c10 => ?_)
      · have d1 : k = List.length gl := by
          have := (nI_leI (by omega) (by omega)).mp c10
          omega
        refine g_iload_n hX (pc := 63) dX16_isAsOne_2_63 1 rfl ?_
        refine g_if_eq hX (pc := 64) (tgt := 69) dX16_isAsOne_2_64 rfl (fun c11_ => ?_) (fun c11_ => ?_)
        · have c11 := bI_0.mp c11_
          have hdn : dnUp gl s (List.length gl) = false := by rw [← d1]; exact c11
          refine g_iload_n hX (pc := 69) dX16_isAsOne_2_69 3 rfl ?_
          refine g_bipush hX (pc := 70) (v := 100) dX16_isAsOne_2_70 (by decide) ?_
          refine g_imul hX (pc := 72) dX16_isAsOne_2_72 ?_
          refine g_eqi (nI (s * 100)) (by rw [show (100 : Int32) = nI 100 from rfl, pk_mul]) ?_
          refine g_iload_n hX (pc := 73) dX16_isAsOne_2_73 4 rfl ?_
          refine g_iadd hX (pc := 74) dX16_isAsOne_2_74 ?_
          refine g_eqi (nI (hAt s v)) (nI_add _ _) ?_
          refine g_istore hX (pc := 75) (lv1 := [(4, .int (nI (hAt s v))), (3, .int (bI (dnUp gl s k))), (0, .ref h), (1, .int (nI s)), (2, .int (nI v))]) dX16_isAsOne_2_75 (by decide) rfl ?_
          refine g_aload_n hX (pc := 77) dX16_isAsOne_2_77 2 rfl ?_
          refine g_get hX (pc := 78) fcX16 1 rfl 1 (by decide) q696 rfl (v := .ref tr) rfl dX16_isAsOne_2_78 ?_
          refine g_iload hX (pc := 81) dX16_isAsOne_2_81 0 rfl ?_
          refine g_bipush hX (pc := 83) (v := 64) dX16_isAsOne_2_83 (by decide) ?_
          refine g_idiv hX (pc := 85) dX16_isAsOne_2_85 (by decide) ?_
          refine g_eqi (nI (hAt s v / 64)) (by rw [show (64 : Int32) = nI 64 from rfl, pk_div (by omega) (by omega) (by omega)]) ?_
          refine g_lald hX (pc := 86) (sp_mem (i := 2) rfl) (v := f (hAt s v / 64)) (vp_in_nI hat64 (by omega)) (by rw [nI_clamp (by omega)]) dX16_isAsOne_2_86 ?_
          refine g_iload hX (pc := 87) dX16_isAsOne_2_87 0 rfl ?_
          refine g_bipush hX (pc := 89) (v := 64) dX16_isAsOne_2_89 (by decide) ?_
          refine g_irem hX (pc := 91) dX16_isAsOne_2_91 (by decide) ?_
          refine g_eqi (nI (hAt s v % 64)) (by rw [show (64 : Int32) = nI 64 from rfl, pk_rem (by omega) (by omega) (by omega)]) ?_
          refine g_lshr hX (pc := 92) (v := (f (hAt s v / 64)) >>> (Int32.toInt64 (nI (hAt s v % 64)) &&& 63)) dX16_isAsOne_2_92 rfl ?_
          refine g_lconst hX (pc := 93) (v := 1) dX16_isAsOne_2_93 (by decide) ?_
          refine g_land hX (pc := 94) dX16_isAsOne_2_94 ?_
          refine g_lconst hX (pc := 95) (v := 1) dX16_isAsOne_2_95 (by decide) ?_
          refine g_lcmp hX (pc := 96) dX16_isAsOne_2_96 ?_
          refine g_if_ne hX (pc := 97) (tgt := 102) dX16_isAsOne_2_97 rfl (fun c12 => ?_) (fun c12 => ?_)
          · refine g_aload_n hX (pc := 102) dX16_isAsOne_2_102 2 rfl ?_
            refine g_get hX (pc := 103) fcX16 1 rfl 1 (by decide) q696 rfl (v := .ref tr) rfl dX16_isAsOne_2_103 ?_
            refine g_iload hX (pc := 106) dX16_isAsOne_2_106 0 rfl ?_
            refine g_bipush hX (pc := 108) (v := 64) dX16_isAsOne_2_108 (by decide) ?_
            refine g_idiv hX (pc := 110) dX16_isAsOne_2_110 (by decide) ?_
            refine g_eqi (nI (hAt s v / 64)) (by rw [show (64 : Int32) = nI 64 from rfl, pk_div (by omega) (by omega) (by omega)]) ?_
            refine g_dup2_11 hX (pc := 111) dX16_isAsOne_2_111 rfl rfl ?_
            refine g_lald hX (pc := 112) (sp_mem (i := 2) rfl) (v := f (hAt s v / 64)) (vp_in_nI hat64 (by omega)) (by rw [nI_clamp (by omega)]) dX16_isAsOne_2_112 ?_
            refine g_lconst hX (pc := 113) (v := 1) dX16_isAsOne_2_113 (by decide) ?_
            refine g_iload hX (pc := 114) dX16_isAsOne_2_114 0 rfl ?_
            refine g_bipush hX (pc := 116) (v := 64) dX16_isAsOne_2_116 (by decide) ?_
            refine g_irem hX (pc := 118) dX16_isAsOne_2_118 (by decide) ?_
            refine g_eqi (nI (hAt s v % 64)) (by rw [show (64 : Int32) = nI 64 from rfl, pk_rem (by omega) (by omega) (by omega)]) ?_
            refine g_lshl hX (pc := 119) (v := 1 <<< (Int32.toInt64 (nI (hAt s v % 64)) &&& 63)) dX16_isAsOne_2_119 rfl ?_
            refine g_lor hX (pc := 120) dX16_isAsOne_2_120 ?_
            refine g_last hX (pc := 121) (f1 := (vp_updL f (hAt s v / 64) (f (hAt s v / 64) ||| 1 <<< (Int32.toInt64 (nI (hAt s v % 64)) &&& 63)))) (cs1 := [wh, [(h, ob 14 [.ref ha, .ref tr])], [(tr, lA (aC E 1) 400 (vp_updL f (hAt s v / 64) (f (hAt s v / 64) ||| 1 <<< (Int32.toInt64 (nI (hAt s v % 64)) &&& 63))))], wq]) 2 rfl (vp_in_nI hat64 (by omega)) (by rw [nI_clamp (by omega)]) rfl dX16_isAsOne_2_121 ?_
            obtain ⟨hJ0, hS0⟩ := TJ.mark hT hv
            generalize (vp_updL f (hAt s v / 64) (f (hAt s v / 64) ||| 1 <<< (Int32.toInt64 (nI (hAt s v % 64)) &&& 63))) = f2 at hJ0 hS0 ⊢
            refine g_iconst hX (pc := 122) (v := 0) dX16_isAsOne_2_122 (by decide) ?_
            refine g_eqi (nI 0) (nI_0.symm) ?_
            refine g_istore hX (pc := 123) (lv1 := [(5, .int (nI 0)), (4, .int (nI (hAt s v))), (3, .int (bI (dnUp gl s k))), (0, .ref h), (1, .int (nI s)), (2, .int (nI v))]) dX16_isAsOne_2_123 (by decide) rfl ?_
            have lp13 : ∀ (F2 : Nat) (i : Nat) (g : Nat → Int64), List.length gl - i < F2 → (i ≤ List.length gl) → (TJ gl g s v) → (TS f g s) → (anyUp gl s v i = false) → G E l X [[(h, ob 14 [.ref ha, .ref tr])], [(tr, lA (aC E 1) 400 g)], wh, wq] 0 0 125 [(5, .int (nI i)), (0, .ref h), (1, .int (nI s)), (2, .int (nI v))] [] := by
              intro F2
              induction F2 with
              | zero =>
                intro i g hF hi hJ hS hany
                exact absurd hF (Nat.not_lt_zero _)
              | succ F2 ih2 =>
                intro i g hF hi hJ hS hany
                refine g_iload hX (pc := 125) dX16_isAsOne_2_125 0 rfl ?_
                refine g_aload_n hX (pc := 127) dX16_isAsOne_2_127 1 rfl ?_
                refine g_get hX (pc := 128) fcX16 0 rfl 0 (by decide) q695 rfl (v := .ref ha) rfl dX16_isAsOne_2_128 ?_
                refine g_callF hX (pc := 131) kfJ2_size (mt_AL_size E l ha as1 wh hA2) q268 fcJ2 (sp_in 2 rfl hm9) [2] rfl rfl rfl (Nat.le_of_ble_eq_true rfl) (Nat.le_of_ble_eq_true rfl) (Nat.le_of_ble_eq_true rfl) (by omega) (by omega) dX16_isAsOne_2_131 (fun v w1 hp => ?_)
                obtain ⟨rfl, rfl⟩ := hp
                refine g_nrm (cs1 := [wh, [(h, ob 14 [.ref ha, .ref tr])], [(tr, lA (aC E 1) 400 g)], wq]) (st1 := [.int (nI (List.length as1)), .int (nI i)]) rfl rfl ?_
                refine g_eqi (nI (List.length gl)) (by rw [hal3]) ?_
                refine g_icmp_ge hX (pc := 136) (tgt := 235) dX16_isAsOne_2_136 rfl (fun c14 => ?_) (fun c14 => ?_)
                · have d2 : i = List.length gl := by
                    have := (nI_leI (by omega) (by omega)).mp c14
                    omega
                  have hany2 : anyUp gl s v (List.length gl) = false := by rw [← d2]; exact hany
                  refine g_iconst hX (pc := 235) (v := 0) dX16_isAsOne_2_235 (by decide) ?_
                  refine g_pk [1, 1, 0, 0] rfl ?_
                  refine g_cs (cs1 := [[(h, ob 14 [.ref ha, .ref tr])], [(tr, lA (aC E 1) 400 g)], wh, wq]) rfl ?_
                  refine g_zret hX (pc := 236) hR rfl ?_ (by omega) (by omega) dX16_isAsOne_2_236
                  have hL := LIN_n hl.1 (v := v) hdn hany2
                  rw [hL]
                  exact ⟨_, hS, fun _ => hJ.done hL, rfl, rfl⟩
                · have d2 : i < List.length gl := by
                    have := mt (nI_leI (by omega) (by omega)).mpr c14
                    omega
                  obtain ⟨r15, hgr15⟩ := get_ex (l := gl) (i := i) (d2)
                  obtain ⟨as16, y17, hA18, hl19, hk20, hm21⟩ := HL.at hw hgr15
                  refine g_aload_n hX (pc := 139) dX16_isAsOne_2_139 1 rfl ?_
                  refine g_get hX (pc := 140) fcX16 1 rfl 0 (by decide) q695 rfl (v := .ref ha) rfl dX16_isAsOne_2_140 ?_
                  refine g_iload hX (pc := 143) dX16_isAsOne_2_143 0 rfl ?_
                  refine g_callF hX (pc := 145) kfJ2_get (mt_AL_get E l ha as16 wh i y17 hA18 (hk20)) q270 fcJ2 (sp_in 0 rfl hm9) [0] rfl rfl rfl (Nat.le_of_ble_eq_true rfl) (Nat.le_of_ble_eq_true rfl) (Nat.le_of_ble_eq_true rfl) (by omega) (by omega) dX16_isAsOne_2_145 (fun v w1 hp => ?_)
                  obtain ⟨rfl, rfl⟩ := hp
                  refine g_nrm (cs1 := [wh, [(h, ob 14 [.ref ha, .ref tr])], [(tr, lA (aC E 1) 400 g)], wq]) (st1 := [.ref y17]) rfl rfl ?_
                  refine g_cast hX (pc := 150) fcX12 (sp_in 3 rfl hm21) q271 dX16_isAsOne_2_150 ?_
                  refine g_astore hX (pc := 153) (lv1 := [(6, .ref y17), (5, .int (nI i)), (0, .ref h), (1, .int (nI s)), (2, .int (nI v))]) dX16_isAsOne_2_153 (by decide) rfl ?_
                  refine g_iload_n hX (pc := 155) dX16_isAsOne_2_155 3 rfl ?_
                  refine g_iload hX (pc := 156) dX16_isAsOne_2_156 1 rfl ?_
                  refine g_ishr hX (pc := 158) dX16_isAsOne_2_158 ?_
                  refine g_iconst hX (pc := 159) (v := 1) dX16_isAsOne_2_159 (by decide) ?_
                  refine g_iand hX (pc := 160) dX16_isAsOne_2_160 ?_
                  refine g_eqi (bI (Nat.testBit s i)) (sb_get s hs i (by omega)) ?_
                  refine g_if_ne hX (pc := 161) (tgt := 200) dX16_isAsOne_2_161 rfl (fun c22_ => ?_) (fun c22_ => ?_)
                  · have c22 := mt bI_0.mpr c22_
                    refine g_iconst hX (pc := 200) (v := 0) dX16_isAsOne_2_200 (by decide) ?_
                    refine g_istore hX (pc := 201) (lv1 := [(7, .int 0), (6, .ref y17), (5, .int (nI i)), (0, .ref h), (1, .int (nI s)), (2, .int (nI v))]) dX16_isAsOne_2_201 (by decide) rfl ?_
                    refine g_iload hX (pc := 203) dX16_isAsOne_2_203 0 rfl ?_
                    refine g_if_eq hX (pc := 205) (tgt := 229) dX16_isAsOne_2_205 rfl (fun c23 => ?_) (fun c23 => ?_)
                    · refine g_iinc hX (pc := 229) (v := nI (i + 1)) (lv1 := [(5, .int (nI (i + 1))), (7, .int 0), (6, .ref y17), (0, .ref h), (1, .int (nI s)), (2, .int (nI v))]) dX16_isAsOne_2_229 2 rfl (nI_1 _) (by decide) rfl ?_
                      refine g_goto hX (pc := 232) (tgt := 125) dX16_isAsOne_2_232 rfl ?_
                      refine g_pk [1, 1, 0, 0] rfl ?_
                      refine g_cs (cs1 := [[(h, ob 14 [.ref ha, .ref tr])], [(tr, lA (aC E 1) 400 g)], wh, wq]) rfl ?_
                      refine g_lv (lv1 := [(5, .int (nI (i + 1))), (0, .ref h), (1, .int (nI s)), (2, .int (nI v))]) [0, 3, 4, 5] rfl ?_
                      refine g_widen (kc1 := 0) (ks1 := 0) (by omega) (by omega) ?_
                      exact ih2 (i + 1) g (by omega) (by omega) (hJ) (hS) (any_n hgr15 hany (Or.inl (by simpa using c22)))
                    · exact absurd c23 (by decide)
                  · have c22 := bI_0.mp c22_
                    have hb : Nat.testBit s i = false := c22
                    refine g_aload_n hX (pc := 164) dX16_isAsOne_2_164 2 rfl ?_
                    refine g_iload_n hX (pc := 165) dX16_isAsOne_2_165 3 rfl ?_
                    refine g_aload hX (pc := 166) dX16_isAsOne_2_166 0 rfl ?_
                    refine g_callV hX (pc := 168) kX16_isNext (mt_History_isNext E l h ha tr gl wh wq s y17 r15 hw (hm21) (hl.1) (hs)) q714 fcX16 (sp_mem (i := 1) rfl) [1, 0, 1] rfl rfl rfl (Nat.le_of_ble_eq_true rfl) (Nat.le_of_ble_eq_true rfl) (Nat.le_of_ble_eq_true rfl) (by omega) (by omega) dX16_isAsOne_2_168 (fun v w1 hp => ?_)
                    obtain ⟨rfl, rfl⟩ := hp
                    refine g_nrm (cs1 := [[(h, ob 14 [.ref ha, .ref tr])], wh, wq, [(tr, lA (aC E 1) 400 g)]]) (st1 := [.int (bI (nxUp gl s r15 (List.length gl)))]) rfl rfl ?_
                    refine g_if_eq hX (pc := 171) (tgt := 200) dX16_isAsOne_2_171 rfl (fun c24_ => ?_) (fun c24_ => ?_)
                    · have c24 := bI_0.mp c24_
                      refine g_iconst hX (pc := 200) (v := 0) dX16_isAsOne_2_200 (by decide) ?_
                      refine g_istore hX (pc := 201) (lv1 := [(7, .int 0), (6, .ref y17), (5, .int (nI i)), (0, .ref h), (1, .int (nI s)), (2, .int (nI v))]) dX16_isAsOne_2_201 (by decide) rfl ?_
                      refine g_iload hX (pc := 203) dX16_isAsOne_2_203 0 rfl ?_
                      refine g_if_eq hX (pc := 205) (tgt := 229) dX16_isAsOne_2_205 rfl (fun c25 => ?_) (fun c25 => ?_)
                      · refine g_iinc hX (pc := 229) (v := nI (i + 1)) (lv1 := [(5, .int (nI (i + 1))), (7, .int 0), (6, .ref y17), (0, .ref h), (1, .int (nI s)), (2, .int (nI v))]) dX16_isAsOne_2_229 2 rfl (nI_1 _) (by decide) rfl ?_
                        refine g_goto hX (pc := 232) (tgt := 125) dX16_isAsOne_2_232 rfl ?_
                        refine g_pk [0, 2, 0, 0] rfl ?_
                        refine g_cs (cs1 := [[(h, ob 14 [.ref ha, .ref tr])], [(tr, lA (aC E 1) 400 g)], wh, wq]) rfl ?_
                        refine g_lv (lv1 := [(5, .int (nI (i + 1))), (0, .ref h), (1, .int (nI s)), (2, .int (nI v))]) [0, 3, 4, 5] rfl ?_
                        refine g_widen (kc1 := 0) (ks1 := 0) (by omega) (by omega) ?_
                        exact ih2 (i + 1) g (by omega) (by omega) (hJ) (hS) (any_n hgr15 hany (Or.inr (Or.inl (can_n1 c24))))
                      · exact absurd c25 (by decide)
                    · have c24 := mt bI_0.mpr c24_
                      refine g_aload hX (pc := 174) dX16_isAsOne_2_174 0 rfl ?_
                      refine g_callV hX (pc := 176) kX12_isAnswered (mt_Request_isAnsweredM E l y17 r15 wq (hm21)) q710 fcX12 (sp_in 2 rfl hm21) [2] rfl rfl rfl (Nat.le_of_ble_eq_true rfl) (Nat.le_of_ble_eq_true rfl) (Nat.le_of_ble_eq_true rfl) (by omega) (by omega) dX16_isAsOne_2_176 (fun v w1 hp => ?_)
                      obtain ⟨rfl, rfl⟩ := hp
                      refine g_nrm (cs1 := [wq, [(h, ob 14 [.ref ha, .ref tr])], wh, [(tr, lA (aC E 1) 400 g)]]) (st1 := [.int (if rAns r15 = (-1) then 0 else 1)]) rfl rfl ?_
                      refine g_if_eq hX (pc := 179) (tgt := 196) dX16_isAsOne_2_179 rfl (fun c26_ => ?_) (fun c26_ => ?_)
                      · have c26 := z01.mp c26_
                        refine g_iconst hX (pc := 196) (v := 1) dX16_isAsOne_2_196 (by decide) ?_
                        refine g_goto hX (pc := 197) (tgt := 201) dX16_isAsOne_2_197 rfl ?_
                        refine g_istore hX (pc := 201) (lv1 := [(7, .int 1), (6, .ref y17), (5, .int (nI i)), (0, .ref h), (1, .int (nI s)), (2, .int (nI v))]) dX16_isAsOne_2_201 (by decide) rfl ?_
                        refine g_iload hX (pc := 203) dX16_isAsOne_2_203 0 rfl ?_
                        refine g_if_eq hX (pc := 205) (tgt := 229) dX16_isAsOne_2_205 rfl (fun c27 => ?_) (fun c27 => ?_)
                        · exact absurd c27 (by decide)
                        · refine g_aload_n hX (pc := 208) dX16_isAsOne_2_208 3 rfl ?_
                          refine g_iload_n hX (pc := 209) dX16_isAsOne_2_209 4 rfl ?_
                          refine g_iconst hX (pc := 210) (v := 1) dX16_isAsOne_2_210 (by decide) ?_
                          refine g_iload hX (pc := 211) dX16_isAsOne_2_211 2 rfl ?_
                          refine g_ishl hX (pc := 213) dX16_isAsOne_2_213 ?_
                          refine g_ior hX (pc := 214) dX16_isAsOne_2_214 ?_
                          refine g_eqi (nI (s ||| 1 <<< i)) (sb_or s hs i (by omega)) ?_
                          refine g_aload hX (pc := 215) dX16_isAsOne_2_215 1 rfl ?_
                          refine g_iload_n hX (pc := 217) dX16_isAsOne_2_217 5 rfl ?_
                          refine g_callV hX (pc := 218) kX12_behind (mt_Request_behindM E l y17 r15 wq (nI v) (hm21) ((hl.2 r15 (List.mem_of_getElem? hgr15)).1)) q722 fcX12 (sp_in 0 rfl hm21) [0] rfl rfl rfl (Nat.le_of_ble_eq_true rfl) (Nat.le_of_ble_eq_true rfl) (Nat.le_of_ble_eq_true rfl) (by omega) (by omega) dX16_isAsOne_2_218 (fun v w1 hp => ?_)
                          obtain ⟨rfl, rfl⟩ := hp
                          refine g_nrm (cs1 := [wq, [(h, ob 14 [.ref ha, .ref tr])], wh, [(tr, lA (aC E 1) 400 g)]]) (st1 := [.int (rqBeh (rK r15) (rA r15) (rB r15) (nI v)), .int (nI (s ||| 1 <<< i)), .ref h]) rfl rfl ?_
                          refine g_eqi (nI (hBeh r15 v)) ((beh_ok (hl.2 r15 (List.mem_of_getElem? hgr15)).2 hv).1) ?_
                          refine g_callV hX (pc := 221) kX16_isAsOne_2 (mt_History_isAsOne_0 E l h ha tr g gl wh wq (s ||| 1 <<< i) (hBeh r15 v) hw (hl) (sb_lt s hs i (by omega)) ((beh_ok (hl.2 r15 (List.mem_of_getElem? hgr15)).2 hv).2) (uns_call d2 hb hd) (TJ.pre hJ (sb_gt hb))) q706 fcX16 (sp_mem (i := 1) rfl) [1, 2, 1, 0] rfl rfl rfl (Nat.le_of_ble_eq_true rfl) (Nat.le_of_ble_eq_true rfl) (Nat.le_of_ble_eq_true rfl) (by omega) (by omega) dX16_isAsOne_2_221 (fun v w1 hp => ?_)
                          obtain ⟨f128, h29, h30, rfl, rfl⟩ := hp
                          refine g_nrm (cs1 := [[(h, ob 14 [.ref ha, .ref tr])], [(tr, lA (aC E 1) 400 f128)], wh, wq]) (st1 := [.int (bI (LIN gl (s ||| 1 <<< i) (hBeh r15 v)))]) rfl rfl ?_
                          refine g_if_eq hX (pc := 224) (tgt := 229) dX16_isAsOne_2_224 rfl (fun c31_ => ?_) (fun c31_ => ?_)
                          · have c31 := bI_0.mp c31_
                            refine g_iinc hX (pc := 229) (v := nI (i + 1)) (lv1 := [(5, .int (nI (i + 1))), (7, .int 1), (6, .ref y17), (0, .ref h), (1, .int (nI s)), (2, .int (nI v))]) dX16_isAsOne_2_229 2 rfl (nI_1 _) (by decide) rfl ?_
                            refine g_goto hX (pc := 232) (tgt := 125) dX16_isAsOne_2_232 rfl ?_
                            refine g_lv (lv1 := [(5, .int (nI (i + 1))), (0, .ref h), (1, .int (nI s)), (2, .int (nI v))]) [0, 3, 4, 5] rfl ?_
                            refine g_widen (kc1 := 0) (ks1 := 0) (by omega) (by omega) ?_
                            exact ih2 (i + 1) f128 (by omega) (by omega) (TJ.call hJ (sb_gt hb) h29 (h30 c31)) (TS.tr hS (Nat.le_of_lt (sb_gt hb)) h29) (any_n hgr15 hany (Or.inr (Or.inr c31)))
                          · have c31 := mt bI_0.mpr c31_
                            refine g_iconst hX (pc := 227) (v := 1) dX16_isAsOne_2_227 (by decide) ?_
                            refine g_zret hX (pc := 228) hR rfl ?_ (by omega) (by omega) dX16_isAsOne_2_228
                            have hL := LIN_y hl.1 d2 hgr15 hb (can_y (by simpa using c24) (Or.inl c26)) (by simpa using c31)
                            rw [hL]
                            exact ⟨_, TS.tr hS (Nat.le_of_lt (sb_gt hb)) h29, fun z => absurd z (by decide), rfl, rfl⟩
                      · have c26 := z01n.mp c26_
                        refine g_aload hX (pc := 182) dX16_isAsOne_2_182 0 rfl ?_
                        refine g_iload_n hX (pc := 184) dX16_isAsOne_2_184 4 rfl ?_
                        refine g_callV hX (pc := 185) kX12_told (mt_Request_toldM E l y17 r15 wq (nI v) (hm21) ((hl.2 r15 (List.mem_of_getElem? hgr15)).1)) q718 fcX12 (sp_in 0 rfl hm21) [0] rfl rfl rfl (Nat.le_of_ble_eq_true rfl) (Nat.le_of_ble_eq_true rfl) (Nat.le_of_ble_eq_true rfl) (by omega) (by omega) dX16_isAsOne_2_185 (fun v w1 hp => ?_)
                        obtain ⟨rfl, rfl⟩ := hp
                        refine g_nrm (cs1 := [wq, [(h, ob 14 [.ref ha, .ref tr])], wh, [(tr, lA (aC E 1) 400 g)]]) (st1 := [.int (rqTold (rK r15) (rA r15) (nI v))]) rfl rfl ?_
                        refine g_aload hX (pc := 188) dX16_isAsOne_2_188 0 rfl ?_
                        refine g_getNm hX (pc := 190) fcX12 (sp_in 0 rfl hm21) 5 (by decide) q1005 rfl (v := .int (rRes r15)) rfl dX16_isAsOne_2_190 ?_
                        refine g_icmp_ne hX (pc := 193) (tgt := 200) dX16_isAsOne_2_193 rfl (fun c32 => ?_) (fun c32 => ?_)
                        · refine g_iconst hX (pc := 200) (v := 0) dX16_isAsOne_2_200 (by decide) ?_
                          refine g_istore hX (pc := 201) (lv1 := [(7, .int 0), (6, .ref y17), (5, .int (nI i)), (0, .ref h), (1, .int (nI s)), (2, .int (nI v))]) dX16_isAsOne_2_201 (by decide) rfl ?_
                          refine g_iload hX (pc := 203) dX16_isAsOne_2_203 0 rfl ?_
                          refine g_if_eq hX (pc := 205) (tgt := 229) dX16_isAsOne_2_205 rfl (fun c33 => ?_) (fun c33 => ?_)
                          · refine g_iinc hX (pc := 229) (v := nI (i + 1)) (lv1 := [(5, .int (nI (i + 1))), (7, .int 0), (6, .ref y17), (0, .ref h), (1, .int (nI s)), (2, .int (nI v))]) dX16_isAsOne_2_229 2 rfl (nI_1 _) (by decide) rfl ?_
                            refine g_goto hX (pc := 232) (tgt := 125) dX16_isAsOne_2_232 rfl ?_
                            refine g_pk [1, 2, 1, 0] rfl ?_
                            refine g_cs (cs1 := [[(h, ob 14 [.ref ha, .ref tr])], [(tr, lA (aC E 1) 400 g)], wh, wq]) rfl ?_
                            refine g_lv (lv1 := [(5, .int (nI (i + 1))), (0, .ref h), (1, .int (nI s)), (2, .int (nI v))]) [0, 3, 4, 5] rfl ?_
                            refine g_widen (kc1 := 0) (ks1 := 0) (by omega) (by omega) ?_
                            exact ih2 (i + 1) g (by omega) (by omega) (hJ) (hS) (any_n hgr15 hany (Or.inr (Or.inl (can_n2 c26 c32))))
                          · exact absurd c33 (by decide)
                        · refine g_iconst hX (pc := 196) (v := 1) dX16_isAsOne_2_196 (by decide) ?_
                          refine g_goto hX (pc := 197) (tgt := 201) dX16_isAsOne_2_197 rfl ?_
                          refine g_istore hX (pc := 201) (lv1 := [(7, .int 1), (6, .ref y17), (5, .int (nI i)), (0, .ref h), (1, .int (nI s)), (2, .int (nI v))]) dX16_isAsOne_2_201 (by decide) rfl ?_
                          refine g_iload hX (pc := 203) dX16_isAsOne_2_203 0 rfl ?_
                          refine g_if_eq hX (pc := 205) (tgt := 229) dX16_isAsOne_2_205 rfl (fun c34 => ?_) (fun c34 => ?_)
                          · exact absurd c34 (by decide)
                          · refine g_aload_n hX (pc := 208) dX16_isAsOne_2_208 3 rfl ?_
                            refine g_iload_n hX (pc := 209) dX16_isAsOne_2_209 4 rfl ?_
                            refine g_iconst hX (pc := 210) (v := 1) dX16_isAsOne_2_210 (by decide) ?_
                            refine g_iload hX (pc := 211) dX16_isAsOne_2_211 2 rfl ?_
                            refine g_ishl hX (pc := 213) dX16_isAsOne_2_213 ?_
                            refine g_ior hX (pc := 214) dX16_isAsOne_2_214 ?_
                            refine g_eqi (nI (s ||| 1 <<< i)) (sb_or s hs i (by omega)) ?_
                            refine g_aload hX (pc := 215) dX16_isAsOne_2_215 1 rfl ?_
                            refine g_iload_n hX (pc := 217) dX16_isAsOne_2_217 5 rfl ?_
                            refine g_callV hX (pc := 218) kX12_behind (mt_Request_behindM E l y17 r15 wq (nI v) (hm21) ((hl.2 r15 (List.mem_of_getElem? hgr15)).1)) q722 fcX12 (sp_in 0 rfl hm21) [0] rfl rfl rfl (Nat.le_of_ble_eq_true rfl) (Nat.le_of_ble_eq_true rfl) (Nat.le_of_ble_eq_true rfl) (by omega) (by omega) dX16_isAsOne_2_218 (fun v w1 hp => ?_)
                            obtain ⟨rfl, rfl⟩ := hp
                            refine g_nrm (cs1 := [wq, [(h, ob 14 [.ref ha, .ref tr])], wh, [(tr, lA (aC E 1) 400 g)]]) (st1 := [.int (rqBeh (rK r15) (rA r15) (rB r15) (nI v)), .int (nI (s ||| 1 <<< i)), .ref h]) rfl rfl ?_
                            refine g_eqi (nI (hBeh r15 v)) ((beh_ok (hl.2 r15 (List.mem_of_getElem? hgr15)).2 hv).1) ?_
                            refine g_callV hX (pc := 221) kX16_isAsOne_2 (mt_History_isAsOne_0 E l h ha tr g gl wh wq (s ||| 1 <<< i) (hBeh r15 v) hw (hl) (sb_lt s hs i (by omega)) ((beh_ok (hl.2 r15 (List.mem_of_getElem? hgr15)).2 hv).2) (uns_call d2 hb hd) (TJ.pre hJ (sb_gt hb))) q706 fcX16 (sp_mem (i := 1) rfl) [1, 2, 1, 0] rfl rfl rfl (Nat.le_of_ble_eq_true rfl) (Nat.le_of_ble_eq_true rfl) (Nat.le_of_ble_eq_true rfl) (by omega) (by omega) dX16_isAsOne_2_221 (fun v w1 hp => ?_)
                            obtain ⟨f135, h36, h37, rfl, rfl⟩ := hp
                            refine g_nrm (cs1 := [[(h, ob 14 [.ref ha, .ref tr])], [(tr, lA (aC E 1) 400 f135)], wh, wq]) (st1 := [.int (bI (LIN gl (s ||| 1 <<< i) (hBeh r15 v)))]) rfl rfl ?_
                            refine g_if_eq hX (pc := 224) (tgt := 229) dX16_isAsOne_2_224 rfl (fun c38_ => ?_) (fun c38_ => ?_)
                            · have c38 := bI_0.mp c38_
                              refine g_iinc hX (pc := 229) (v := nI (i + 1)) (lv1 := [(5, .int (nI (i + 1))), (7, .int 1), (6, .ref y17), (0, .ref h), (1, .int (nI s)), (2, .int (nI v))]) dX16_isAsOne_2_229 2 rfl (nI_1 _) (by decide) rfl ?_
                              refine g_goto hX (pc := 232) (tgt := 125) dX16_isAsOne_2_232 rfl ?_
                              refine g_lv (lv1 := [(5, .int (nI (i + 1))), (0, .ref h), (1, .int (nI s)), (2, .int (nI v))]) [0, 3, 4, 5] rfl ?_
                              refine g_widen (kc1 := 0) (ks1 := 0) (by omega) (by omega) ?_
                              exact ih2 (i + 1) f135 (by omega) (by omega) (TJ.call hJ (sb_gt hb) h36 (h37 c38)) (TS.tr hS (Nat.le_of_lt (sb_gt hb)) h36) (any_n hgr15 hany (Or.inr (Or.inr c38)))
                            · have c38 := mt bI_0.mpr c38_
                              refine g_iconst hX (pc := 227) (v := 1) dX16_isAsOne_2_227 (by decide) ?_
                              refine g_zret hX (pc := 228) hR rfl ?_ (by omega) (by omega) dX16_isAsOne_2_228
                              have hL := LIN_y hl.1 d2 hgr15 hb (can_y (by simpa using c24) (Or.inr c32)) (by simpa using c38)
                              rw [hL]
                              exact ⟨_, TS.tr hS (Nat.le_of_lt (sb_gt hb)) h36, fun z => absurd z (by decide), rfl, rfl⟩
            refine g_pk [1, 1, 0, 0] rfl ?_
            refine g_cs (cs1 := [[(h, ob 14 [.ref ha, .ref tr])], [(tr, lA (aC E 1) 400 f2)], wh, wq]) rfl ?_
            refine g_lv (lv1 := [(5, .int (nI 0)), (0, .ref h), (1, .int (nI s)), (2, .int (nI v))]) [0, 3, 4, 5] rfl ?_
            refine g_widen (kc1 := 0) (ks1 := 0) (by omega) (by omega) ?_
            exact lp13 ((List.length gl - 0) + 1) 0 f2 (Nat.lt_succ_self _) (Nat.zero_le _) (hJ0) (hS0) (rfl)
          · refine g_iconst hX (pc := 100) (v := 0) dX16_isAsOne_2_100 (by decide) ?_
            refine g_pk [1, 1, 0, 0] rfl ?_
            refine g_cs (cs1 := [[(h, ob 14 [.ref ha, .ref tr])], [(tr, lA (aC E 1) 400 f)], wh, wq]) rfl ?_
            refine g_zret hX (pc := 101) hR rfl ?_ (by omega) (by omega) dX16_isAsOne_2_101
            have hL := hT s v (Nat.le_refl _) hv (lcmp_1.mp c12)
            rw [hL]
            exact ⟨_, fun _ _ _ _ => rfl, fun _ => hT, rfl, rfl⟩
        · have c11 := mt bI_0.mpr c11_
          refine g_iconst hX (pc := 67) (v := 1) dX16_isAsOne_2_67 (by decide) ?_
          refine g_pk [1, 1, 0, 0] rfl ?_
          refine g_cs (cs1 := [[(h, ob 14 [.ref ha, .ref tr])], [(tr, lA (aC E 1) 400 f)], wh, wq]) rfl ?_
          refine g_zret hX (pc := 68) hR rfl ?_ (by omega) (by omega) dX16_isAsOne_2_68
          have hL := LIN_d hl.1 (v := v) (by rw [← d1]; simpa using c11)
          rw [hL]
          exact ⟨_, fun _ _ _ _ => rfl, fun z => absurd z (by decide), rfl, rfl⟩
      · have d1 : k < List.length gl := by
          have := mt (nI_leI (by omega) (by omega)).mpr c10
          omega
        obtain ⟨r39, hgr39⟩ := get_ex (l := gl) (i := k) (d1)
        obtain ⟨as40, y41, hA42, hl43, hk44, hm45⟩ := HL.at hw hgr39
        refine g_iload_n hX (pc := 19) dX16_isAsOne_2_19 1 rfl ?_
        refine g_iload_n hX (pc := 20) dX16_isAsOne_2_20 3 rfl ?_
        refine g_iload hX (pc := 21) dX16_isAsOne_2_21 0 rfl ?_
        refine g_ishr hX (pc := 23) dX16_isAsOne_2_23 ?_
        refine g_iconst hX (pc := 24) (v := 1) dX16_isAsOne_2_24 (by decide) ?_
        refine g_iand hX (pc := 25) dX16_isAsOne_2_25 ?_
        refine g_eqi (bI (Nat.testBit s k)) (sb_get s hs k (by omega)) ?_
        refine g_iconst hX (pc := 26) (v := 1) dX16_isAsOne_2_26 (by decide) ?_
        refine g_icmp_eq hX (pc := 27) (tgt := 50) dX16_isAsOne_2_27 rfl (fun c46 => ?_) (fun c46 => ?_)
        · refine g_iconst hX (pc := 50) (v := 1) dX16_isAsOne_2_50 (by decide) ?_
          refine g_goto hX (pc := 51) (tgt := 55) dX16_isAsOne_2_51 rfl ?_
          refine g_iand hX (pc := 55) dX16_isAsOne_2_55 ?_
          refine g_eqi (bI (dnUp gl s (k + 1))) (dn_1 (Or.inl (bI_1.mp c46))) ?_
          refine g_istore_n hX (pc := 56) (lv1 := [(3, .int (bI (dnUp gl s (k + 1)))), (4, .int (nI k)), (0, .ref h), (1, .int (nI s)), (2, .int (nI v))]) dX16_isAsOne_2_56 (by decide) rfl ?_
          refine g_iinc hX (pc := 57) (v := nI (k + 1)) (lv1 := [(4, .int (nI (k + 1))), (3, .int (bI (dnUp gl s (k + 1)))), (0, .ref h), (1, .int (nI s)), (2, .int (nI v))]) dX16_isAsOne_2_57 1 rfl (nI_1 _) (by decide) rfl ?_
          refine g_goto hX (pc := 60) (tgt := 5) dX16_isAsOne_2_60 rfl ?_
          refine g_pk [1, 1, 0, 0] rfl ?_
          refine g_cs (cs1 := [[(h, ob 14 [.ref ha, .ref tr])], [(tr, lA (aC E 1) 400 f)], wh, wq]) rfl ?_
          refine g_widen (kc1 := 0) (ks1 := 0) (by omega) (by omega) ?_
          exact ih1 (k + 1) (by omega) (by omega)
        · refine g_aload_n hX (pc := 30) dX16_isAsOne_2_30 2 rfl ?_
          refine g_get hX (pc := 31) fcX16 1 rfl 0 (by decide) q695 rfl (v := .ref ha) rfl dX16_isAsOne_2_31 ?_
          refine g_iload hX (pc := 34) dX16_isAsOne_2_34 0 rfl ?_
          refine g_callF hX (pc := 36) kfJ2_get (mt_AL_get E l ha as40 wh k y41 hA42 (hk44)) q270 fcJ2 (sp_in 0 rfl hm9) [0] rfl rfl rfl (Nat.le_of_ble_eq_true rfl) (Nat.le_of_ble_eq_true rfl) (Nat.le_of_ble_eq_true rfl) (by omega) (by omega) dX16_isAsOne_2_36 (fun v w1 hp => ?_)
          obtain ⟨rfl, rfl⟩ := hp
          refine g_nrm (cs1 := [wh, [(h, ob 14 [.ref ha, .ref tr])], [(tr, lA (aC E 1) 400 f)], wq]) (st1 := [.ref y41, .int (bI (dnUp gl s k))]) rfl rfl ?_
          refine g_cast hX (pc := 41) fcX12 (sp_in 3 rfl hm45) q271 dX16_isAsOne_2_41 ?_
          refine g_callV hX (pc := 44) kX12_isAnswered (mt_Request_isAnsweredM E l y41 r39 wq (hm45)) q710 fcX12 (sp_in 3 rfl hm45) [3] rfl rfl rfl (Nat.le_of_ble_eq_true rfl) (Nat.le_of_ble_eq_true rfl) (Nat.le_of_ble_eq_true rfl) (by omega) (by omega) dX16_isAsOne_2_44 (fun v w1 hp => ?_)
          obtain ⟨rfl, rfl⟩ := hp
          refine g_nrm (cs1 := [wq, wh, [(h, ob 14 [.ref ha, .ref tr])], [(tr, lA (aC E 1) 400 f)]]) (st1 := [.int (if rAns r39 = (-1) then 0 else 1), .int (bI (dnUp gl s k))]) rfl rfl ?_
          refine g_if_ne hX (pc := 47) (tgt := 54) dX16_isAsOne_2_47 rfl (fun c47_ => ?_) (fun c47_ => ?_)
          · have c47 := z01n.mp c47_
            refine g_iconst hX (pc := 54) (v := 0) dX16_isAsOne_2_54 (by decide) ?_
            refine g_iand hX (pc := 55) dX16_isAsOne_2_55 ?_
            refine g_eqi (bI (dnUp gl s (k + 1))) (dn_0 (fun z => c46 (bI_1.mpr z)) (by rw [hG_e hgr39]; exact c47)) ?_
            refine g_istore_n hX (pc := 56) (lv1 := [(3, .int (bI (dnUp gl s (k + 1)))), (4, .int (nI k)), (0, .ref h), (1, .int (nI s)), (2, .int (nI v))]) dX16_isAsOne_2_56 (by decide) rfl ?_
            refine g_iinc hX (pc := 57) (v := nI (k + 1)) (lv1 := [(4, .int (nI (k + 1))), (3, .int (bI (dnUp gl s (k + 1)))), (0, .ref h), (1, .int (nI s)), (2, .int (nI v))]) dX16_isAsOne_2_57 1 rfl (nI_1 _) (by decide) rfl ?_
            refine g_goto hX (pc := 60) (tgt := 5) dX16_isAsOne_2_60 rfl ?_
            refine g_pk [2, 2, 1, 0] rfl ?_
            refine g_cs (cs1 := [[(h, ob 14 [.ref ha, .ref tr])], [(tr, lA (aC E 1) 400 f)], wh, wq]) rfl ?_
            refine g_widen (kc1 := 0) (ks1 := 0) (by omega) (by omega) ?_
            exact ih1 (k + 1) (by omega) (by omega)
          · have c47 := z01.mp c47_
            refine g_iconst hX (pc := 50) (v := 1) dX16_isAsOne_2_50 (by decide) ?_
            refine g_goto hX (pc := 51) (tgt := 55) dX16_isAsOne_2_51 rfl ?_
            refine g_iand hX (pc := 55) dX16_isAsOne_2_55 ?_
            refine g_eqi (bI (dnUp gl s (k + 1))) (dn_1 (Or.inr (by rw [hG_e hgr39]; exact c47))) ?_
            refine g_istore_n hX (pc := 56) (lv1 := [(3, .int (bI (dnUp gl s (k + 1)))), (4, .int (nI k)), (0, .ref h), (1, .int (nI s)), (2, .int (nI v))]) dX16_isAsOne_2_56 (by decide) rfl ?_
            refine g_iinc hX (pc := 57) (v := nI (k + 1)) (lv1 := [(4, .int (nI (k + 1))), (3, .int (bI (dnUp gl s (k + 1)))), (0, .ref h), (1, .int (nI s)), (2, .int (nI v))]) dX16_isAsOne_2_57 1 rfl (nI_1 _) (by decide) rfl ?_
            refine g_goto hX (pc := 60) (tgt := 5) dX16_isAsOne_2_60 rfl ?_
            refine g_pk [2, 2, 1, 0] rfl ?_
            refine g_cs (cs1 := [[(h, ob 14 [.ref ha, .ref tr])], [(tr, lA (aC E 1) 400 f)], wh, wq]) rfl ?_
            refine g_widen (kc1 := 0) (ks1 := 0) (by omega) (by omega) ?_
            exact ih1 (k + 1) (by omega) (by omega)
  refine g_widen (kc1 := 0) (ks1 := 0) (by omega) (by omega) ?_
  exact lp7 ((List.length gl - 0) + 1) 0 (Nat.lt_succ_self _) (Nat.zero_le _)

set_option maxHeartbeats 4000000 in
theorem mt_History_isAsOne_2 (E : EE) (l : Launch) (h : Nat) (ha : Nat) (tr : Nat) (f : Nat → Int64) (gl : List PR) (wh : va_W) (wq : va_W) (s : Nat) (v : Nat) (hw : HL E ha gl wq wh) (hl : (hOKl gl)) (hs : (s < 256)) (hv : (v < 100)) (hd : (unsUp s (List.length gl) ≤ 2)) (hT : (TI gl f s)) : Mt E l yX16_isAsOne_2 cX16_isAsOne_2 8 (some .boolean) 7 0 0 144 [.ref h, .int (nI s), .int (nI v)] [[(h, ob 14 [.ref ha, .ref tr])], [(tr, lA (aC E 1) 400 f)], wh, wq] (fun (v_ : Option Value) (cs_ : List va_W) => ∃ (f1 : Nat → Int64), (TS f f1 s) ∧ (LIN gl s v = false → TI gl f1 s) ∧ v_ = some (.int (bI (LIN gl s v))) ∧ cs_ = [[(h, ob 14 [.ref ha, .ref tr])], [(tr, lA (aC E 1) 400 f1)], wh, wq]) := by
  have hl8 := hl.1
  have hat64 : hAt s v / 64 < 400 := by show (s * 100 + v) / 64 < 400; omega
  have hat31 : hAt s v < 2 ^ 31 := by show s * 100 + v < 2 ^ 31; omega
  refine Mt.of (by decide) (Nat.le_of_ble_eq_true rfl) (fun X hX hR hin => ?_)
  refine g_lv1 (lv1 := [(0, .ref h), (1, .int (nI s)), (2, .int (nI v))]) rfl ?_
  obtain ⟨as1, hA2, hal3, hok4, hins5, hera6⟩ := HL.al hw
  refine g_iconst hX (pc := 0) (v := 1) dX16_isAsOne_2_0 (by decide) ?_
  refine g_eqi (bI (dnUp gl s 0)) (rfl) ?_
  refine g_istore_n hX (pc := 1) (lv1 := [(3, .int (bI (dnUp gl s 0))), (0, .ref h), (1, .int (nI s)), (2, .int (nI v))]) dX16_isAsOne_2_1 (by decide) rfl ?_
  refine g_iconst hX (pc := 2) (v := 0) dX16_isAsOne_2_2 (by decide) ?_
  refine g_eqi (nI 0) (nI_0.symm) ?_
  refine g_istore hX (pc := 3) (lv1 := [(4, .int (nI 0)), (3, .int (bI (dnUp gl s 0))), (0, .ref h), (1, .int (nI s)), (2, .int (nI v))]) dX16_isAsOne_2_3 (by decide) rfl ?_
  have lp7 : ∀ (F1 : Nat) (k : Nat), List.length gl - k < F1 → (k ≤ List.length gl) → G E l X [[(h, ob 14 [.ref ha, .ref tr])], [(tr, lA (aC E 1) 400 f)], wh, wq] 0 0 5 [(4, .int (nI k)), (3, .int (bI (dnUp gl s k))), (0, .ref h), (1, .int (nI s)), (2, .int (nI v))] [] := by
    intro F1
    induction F1 with
    | zero =>
      intro k hF hk
      exact absurd hF (Nat.not_lt_zero _)
    | succ F1 ih1 =>
      intro k hF hk
      refine g_iload hX (pc := 5) dX16_isAsOne_2_5 0 rfl ?_
      refine g_aload_n hX (pc := 7) dX16_isAsOne_2_7 2 rfl ?_
      refine g_get hX (pc := 8) fcX16 0 rfl 0 (by decide) q695 rfl (v := .ref ha) rfl dX16_isAsOne_2_8 ?_
      obtain ⟨fs8, hm9⟩ := AL.head hA2
      refine g_callF hX (pc := 11) kfJ2_size (mt_AL_size E l ha as1 wh hA2) q268 fcJ2 (sp_in 2 rfl hm9) [2] rfl rfl rfl (Nat.le_of_ble_eq_true rfl) (Nat.le_of_ble_eq_true rfl) (Nat.le_of_ble_eq_true rfl) (by omega) (by omega) dX16_isAsOne_2_11 (fun v w1 hp => ?_)
      obtain ⟨rfl, rfl⟩ := hp
      refine g_nrm (cs1 := [wh, [(h, ob 14 [.ref ha, .ref tr])], [(tr, lA (aC E 1) 400 f)], wq]) (st1 := [.int (nI (List.length as1)), .int (nI k)]) rfl rfl ?_
      refine g_eqi (nI (List.length gl)) (by rw [hal3]) ?_
      refine g_icmp_ge hX (pc := 16) (tgt := 63) dX16_isAsOne_2_16 rfl (fun c10 => ?_) (fun c10 => ?_)
      · have d1 : k = List.length gl := by
          have := (nI_leI (by omega) (by omega)).mp c10
          omega
        refine g_iload_n hX (pc := 63) dX16_isAsOne_2_63 1 rfl ?_
        refine g_if_eq hX (pc := 64) (tgt := 69) dX16_isAsOne_2_64 rfl (fun c11_ => ?_) (fun c11_ => ?_)
        · have c11 := bI_0.mp c11_
          have hdn : dnUp gl s (List.length gl) = false := by rw [← d1]; exact c11
          refine g_iload_n hX (pc := 69) dX16_isAsOne_2_69 3 rfl ?_
          refine g_bipush hX (pc := 70) (v := 100) dX16_isAsOne_2_70 (by decide) ?_
          refine g_imul hX (pc := 72) dX16_isAsOne_2_72 ?_
          refine g_eqi (nI (s * 100)) (by rw [show (100 : Int32) = nI 100 from rfl, pk_mul]) ?_
          refine g_iload_n hX (pc := 73) dX16_isAsOne_2_73 4 rfl ?_
          refine g_iadd hX (pc := 74) dX16_isAsOne_2_74 ?_
          refine g_eqi (nI (hAt s v)) (nI_add _ _) ?_
          refine g_istore hX (pc := 75) (lv1 := [(4, .int (nI (hAt s v))), (3, .int (bI (dnUp gl s k))), (0, .ref h), (1, .int (nI s)), (2, .int (nI v))]) dX16_isAsOne_2_75 (by decide) rfl ?_
          refine g_aload_n hX (pc := 77) dX16_isAsOne_2_77 2 rfl ?_
          refine g_get hX (pc := 78) fcX16 1 rfl 1 (by decide) q696 rfl (v := .ref tr) rfl dX16_isAsOne_2_78 ?_
          refine g_iload hX (pc := 81) dX16_isAsOne_2_81 0 rfl ?_
          refine g_bipush hX (pc := 83) (v := 64) dX16_isAsOne_2_83 (by decide) ?_
          refine g_idiv hX (pc := 85) dX16_isAsOne_2_85 (by decide) ?_
          refine g_eqi (nI (hAt s v / 64)) (by rw [show (64 : Int32) = nI 64 from rfl, pk_div (by omega) (by omega) (by omega)]) ?_
          refine g_lald hX (pc := 86) (sp_mem (i := 2) rfl) (v := f (hAt s v / 64)) (vp_in_nI hat64 (by omega)) (by rw [nI_clamp (by omega)]) dX16_isAsOne_2_86 ?_
          refine g_iload hX (pc := 87) dX16_isAsOne_2_87 0 rfl ?_
          refine g_bipush hX (pc := 89) (v := 64) dX16_isAsOne_2_89 (by decide) ?_
          refine g_irem hX (pc := 91) dX16_isAsOne_2_91 (by decide) ?_
          refine g_eqi (nI (hAt s v % 64)) (by rw [show (64 : Int32) = nI 64 from rfl, pk_rem (by omega) (by omega) (by omega)]) ?_
          refine g_lshr hX (pc := 92) (v := (f (hAt s v / 64)) >>> (Int32.toInt64 (nI (hAt s v % 64)) &&& 63)) dX16_isAsOne_2_92 rfl ?_
          refine g_lconst hX (pc := 93) (v := 1) dX16_isAsOne_2_93 (by decide) ?_
          refine g_land hX (pc := 94) dX16_isAsOne_2_94 ?_
          refine g_lconst hX (pc := 95) (v := 1) dX16_isAsOne_2_95 (by decide) ?_
          refine g_lcmp hX (pc := 96) dX16_isAsOne_2_96 ?_
          refine g_if_ne hX (pc := 97) (tgt := 102) dX16_isAsOne_2_97 rfl (fun c12 => ?_) (fun c12 => ?_)
          · refine g_aload_n hX (pc := 102) dX16_isAsOne_2_102 2 rfl ?_
            refine g_get hX (pc := 103) fcX16 1 rfl 1 (by decide) q696 rfl (v := .ref tr) rfl dX16_isAsOne_2_103 ?_
            refine g_iload hX (pc := 106) dX16_isAsOne_2_106 0 rfl ?_
            refine g_bipush hX (pc := 108) (v := 64) dX16_isAsOne_2_108 (by decide) ?_
            refine g_idiv hX (pc := 110) dX16_isAsOne_2_110 (by decide) ?_
            refine g_eqi (nI (hAt s v / 64)) (by rw [show (64 : Int32) = nI 64 from rfl, pk_div (by omega) (by omega) (by omega)]) ?_
            refine g_dup2_11 hX (pc := 111) dX16_isAsOne_2_111 rfl rfl ?_
            refine g_lald hX (pc := 112) (sp_mem (i := 2) rfl) (v := f (hAt s v / 64)) (vp_in_nI hat64 (by omega)) (by rw [nI_clamp (by omega)]) dX16_isAsOne_2_112 ?_
            refine g_lconst hX (pc := 113) (v := 1) dX16_isAsOne_2_113 (by decide) ?_
            refine g_iload hX (pc := 114) dX16_isAsOne_2_114 0 rfl ?_
            refine g_bipush hX (pc := 116) (v := 64) dX16_isAsOne_2_116 (by decide) ?_
            refine g_irem hX (pc := 118) dX16_isAsOne_2_118 (by decide) ?_
            refine g_eqi (nI (hAt s v % 64)) (by rw [show (64 : Int32) = nI 64 from rfl, pk_rem (by omega) (by omega) (by omega)]) ?_
            refine g_lshl hX (pc := 119) (v := 1 <<< (Int32.toInt64 (nI (hAt s v % 64)) &&& 63)) dX16_isAsOne_2_119 rfl ?_
            refine g_lor hX (pc := 120) dX16_isAsOne_2_120 ?_
            refine g_last hX (pc := 121) (f1 := (vp_updL f (hAt s v / 64) (f (hAt s v / 64) ||| 1 <<< (Int32.toInt64 (nI (hAt s v % 64)) &&& 63)))) (cs1 := [wh, [(h, ob 14 [.ref ha, .ref tr])], [(tr, lA (aC E 1) 400 (vp_updL f (hAt s v / 64) (f (hAt s v / 64) ||| 1 <<< (Int32.toInt64 (nI (hAt s v % 64)) &&& 63))))], wq]) 2 rfl (vp_in_nI hat64 (by omega)) (by rw [nI_clamp (by omega)]) rfl dX16_isAsOne_2_121 ?_
            obtain ⟨hJ0, hS0⟩ := TJ.mark hT hv
            generalize (vp_updL f (hAt s v / 64) (f (hAt s v / 64) ||| 1 <<< (Int32.toInt64 (nI (hAt s v % 64)) &&& 63))) = f2 at hJ0 hS0 ⊢
            refine g_iconst hX (pc := 122) (v := 0) dX16_isAsOne_2_122 (by decide) ?_
            refine g_eqi (nI 0) (nI_0.symm) ?_
            refine g_istore hX (pc := 123) (lv1 := [(5, .int (nI 0)), (4, .int (nI (hAt s v))), (3, .int (bI (dnUp gl s k))), (0, .ref h), (1, .int (nI s)), (2, .int (nI v))]) dX16_isAsOne_2_123 (by decide) rfl ?_
            have lp13 : ∀ (F2 : Nat) (i : Nat) (g : Nat → Int64), List.length gl - i < F2 → (i ≤ List.length gl) → (TJ gl g s v) → (TS f g s) → (anyUp gl s v i = false) → G E l X [[(h, ob 14 [.ref ha, .ref tr])], [(tr, lA (aC E 1) 400 g)], wh, wq] 0 0 125 [(5, .int (nI i)), (0, .ref h), (1, .int (nI s)), (2, .int (nI v))] [] := by
              intro F2
              induction F2 with
              | zero =>
                intro i g hF hi hJ hS hany
                exact absurd hF (Nat.not_lt_zero _)
              | succ F2 ih2 =>
                intro i g hF hi hJ hS hany
                refine g_iload hX (pc := 125) dX16_isAsOne_2_125 0 rfl ?_
                refine g_aload_n hX (pc := 127) dX16_isAsOne_2_127 1 rfl ?_
                refine g_get hX (pc := 128) fcX16 0 rfl 0 (by decide) q695 rfl (v := .ref ha) rfl dX16_isAsOne_2_128 ?_
                refine g_callF hX (pc := 131) kfJ2_size (mt_AL_size E l ha as1 wh hA2) q268 fcJ2 (sp_in 2 rfl hm9) [2] rfl rfl rfl (Nat.le_of_ble_eq_true rfl) (Nat.le_of_ble_eq_true rfl) (Nat.le_of_ble_eq_true rfl) (by omega) (by omega) dX16_isAsOne_2_131 (fun v w1 hp => ?_)
                obtain ⟨rfl, rfl⟩ := hp
                refine g_nrm (cs1 := [wh, [(h, ob 14 [.ref ha, .ref tr])], [(tr, lA (aC E 1) 400 g)], wq]) (st1 := [.int (nI (List.length as1)), .int (nI i)]) rfl rfl ?_
                refine g_eqi (nI (List.length gl)) (by rw [hal3]) ?_
                refine g_icmp_ge hX (pc := 136) (tgt := 235) dX16_isAsOne_2_136 rfl (fun c14 => ?_) (fun c14 => ?_)
                · have d2 : i = List.length gl := by
                    have := (nI_leI (by omega) (by omega)).mp c14
                    omega
                  have hany2 : anyUp gl s v (List.length gl) = false := by rw [← d2]; exact hany
                  refine g_iconst hX (pc := 235) (v := 0) dX16_isAsOne_2_235 (by decide) ?_
                  refine g_pk [1, 1, 0, 0] rfl ?_
                  refine g_cs (cs1 := [[(h, ob 14 [.ref ha, .ref tr])], [(tr, lA (aC E 1) 400 g)], wh, wq]) rfl ?_
                  refine g_zret hX (pc := 236) hR rfl ?_ (by omega) (by omega) dX16_isAsOne_2_236
                  have hL := LIN_n hl.1 (v := v) hdn hany2
                  rw [hL]
                  exact ⟨_, hS, fun _ => hJ.done hL, rfl, rfl⟩
                · have d2 : i < List.length gl := by
                    have := mt (nI_leI (by omega) (by omega)).mpr c14
                    omega
                  obtain ⟨r15, hgr15⟩ := get_ex (l := gl) (i := i) (d2)
                  obtain ⟨as16, y17, hA18, hl19, hk20, hm21⟩ := HL.at hw hgr15
                  refine g_aload_n hX (pc := 139) dX16_isAsOne_2_139 1 rfl ?_
                  refine g_get hX (pc := 140) fcX16 1 rfl 0 (by decide) q695 rfl (v := .ref ha) rfl dX16_isAsOne_2_140 ?_
                  refine g_iload hX (pc := 143) dX16_isAsOne_2_143 0 rfl ?_
                  refine g_callF hX (pc := 145) kfJ2_get (mt_AL_get E l ha as16 wh i y17 hA18 (hk20)) q270 fcJ2 (sp_in 0 rfl hm9) [0] rfl rfl rfl (Nat.le_of_ble_eq_true rfl) (Nat.le_of_ble_eq_true rfl) (Nat.le_of_ble_eq_true rfl) (by omega) (by omega) dX16_isAsOne_2_145 (fun v w1 hp => ?_)
                  obtain ⟨rfl, rfl⟩ := hp
                  refine g_nrm (cs1 := [wh, [(h, ob 14 [.ref ha, .ref tr])], [(tr, lA (aC E 1) 400 g)], wq]) (st1 := [.ref y17]) rfl rfl ?_
                  refine g_cast hX (pc := 150) fcX12 (sp_in 3 rfl hm21) q271 dX16_isAsOne_2_150 ?_
                  refine g_astore hX (pc := 153) (lv1 := [(6, .ref y17), (5, .int (nI i)), (0, .ref h), (1, .int (nI s)), (2, .int (nI v))]) dX16_isAsOne_2_153 (by decide) rfl ?_
                  refine g_iload_n hX (pc := 155) dX16_isAsOne_2_155 3 rfl ?_
                  refine g_iload hX (pc := 156) dX16_isAsOne_2_156 1 rfl ?_
                  refine g_ishr hX (pc := 158) dX16_isAsOne_2_158 ?_
                  refine g_iconst hX (pc := 159) (v := 1) dX16_isAsOne_2_159 (by decide) ?_
                  refine g_iand hX (pc := 160) dX16_isAsOne_2_160 ?_
                  refine g_eqi (bI (Nat.testBit s i)) (sb_get s hs i (by omega)) ?_
                  refine g_if_ne hX (pc := 161) (tgt := 200) dX16_isAsOne_2_161 rfl (fun c22_ => ?_) (fun c22_ => ?_)
                  · have c22 := mt bI_0.mpr c22_
                    refine g_iconst hX (pc := 200) (v := 0) dX16_isAsOne_2_200 (by decide) ?_
                    refine g_istore hX (pc := 201) (lv1 := [(7, .int 0), (6, .ref y17), (5, .int (nI i)), (0, .ref h), (1, .int (nI s)), (2, .int (nI v))]) dX16_isAsOne_2_201 (by decide) rfl ?_
                    refine g_iload hX (pc := 203) dX16_isAsOne_2_203 0 rfl ?_
                    refine g_if_eq hX (pc := 205) (tgt := 229) dX16_isAsOne_2_205 rfl (fun c23 => ?_) (fun c23 => ?_)
                    · refine g_iinc hX (pc := 229) (v := nI (i + 1)) (lv1 := [(5, .int (nI (i + 1))), (7, .int 0), (6, .ref y17), (0, .ref h), (1, .int (nI s)), (2, .int (nI v))]) dX16_isAsOne_2_229 2 rfl (nI_1 _) (by decide) rfl ?_
                      refine g_goto hX (pc := 232) (tgt := 125) dX16_isAsOne_2_232 rfl ?_
                      refine g_pk [1, 1, 0, 0] rfl ?_
                      refine g_cs (cs1 := [[(h, ob 14 [.ref ha, .ref tr])], [(tr, lA (aC E 1) 400 g)], wh, wq]) rfl ?_
                      refine g_lv (lv1 := [(5, .int (nI (i + 1))), (0, .ref h), (1, .int (nI s)), (2, .int (nI v))]) [0, 3, 4, 5] rfl ?_
                      refine g_widen (kc1 := 0) (ks1 := 0) (by omega) (by omega) ?_
                      exact ih2 (i + 1) g (by omega) (by omega) (hJ) (hS) (any_n hgr15 hany (Or.inl (by simpa using c22)))
                    · exact absurd c23 (by decide)
                  · have c22 := bI_0.mp c22_
                    have hb : Nat.testBit s i = false := c22
                    refine g_aload_n hX (pc := 164) dX16_isAsOne_2_164 2 rfl ?_
                    refine g_iload_n hX (pc := 165) dX16_isAsOne_2_165 3 rfl ?_
                    refine g_aload hX (pc := 166) dX16_isAsOne_2_166 0 rfl ?_
                    refine g_callV hX (pc := 168) kX16_isNext (mt_History_isNext E l h ha tr gl wh wq s y17 r15 hw (hm21) (hl.1) (hs)) q714 fcX16 (sp_mem (i := 1) rfl) [1, 0, 1] rfl rfl rfl (Nat.le_of_ble_eq_true rfl) (Nat.le_of_ble_eq_true rfl) (Nat.le_of_ble_eq_true rfl) (by omega) (by omega) dX16_isAsOne_2_168 (fun v w1 hp => ?_)
                    obtain ⟨rfl, rfl⟩ := hp
                    refine g_nrm (cs1 := [[(h, ob 14 [.ref ha, .ref tr])], wh, wq, [(tr, lA (aC E 1) 400 g)]]) (st1 := [.int (bI (nxUp gl s r15 (List.length gl)))]) rfl rfl ?_
                    refine g_if_eq hX (pc := 171) (tgt := 200) dX16_isAsOne_2_171 rfl (fun c24_ => ?_) (fun c24_ => ?_)
                    · have c24 := bI_0.mp c24_
                      refine g_iconst hX (pc := 200) (v := 0) dX16_isAsOne_2_200 (by decide) ?_
                      refine g_istore hX (pc := 201) (lv1 := [(7, .int 0), (6, .ref y17), (5, .int (nI i)), (0, .ref h), (1, .int (nI s)), (2, .int (nI v))]) dX16_isAsOne_2_201 (by decide) rfl ?_
                      refine g_iload hX (pc := 203) dX16_isAsOne_2_203 0 rfl ?_
                      refine g_if_eq hX (pc := 205) (tgt := 229) dX16_isAsOne_2_205 rfl (fun c25 => ?_) (fun c25 => ?_)
                      · refine g_iinc hX (pc := 229) (v := nI (i + 1)) (lv1 := [(5, .int (nI (i + 1))), (7, .int 0), (6, .ref y17), (0, .ref h), (1, .int (nI s)), (2, .int (nI v))]) dX16_isAsOne_2_229 2 rfl (nI_1 _) (by decide) rfl ?_
                        refine g_goto hX (pc := 232) (tgt := 125) dX16_isAsOne_2_232 rfl ?_
                        refine g_pk [0, 2, 0, 0] rfl ?_
                        refine g_cs (cs1 := [[(h, ob 14 [.ref ha, .ref tr])], [(tr, lA (aC E 1) 400 g)], wh, wq]) rfl ?_
                        refine g_lv (lv1 := [(5, .int (nI (i + 1))), (0, .ref h), (1, .int (nI s)), (2, .int (nI v))]) [0, 3, 4, 5] rfl ?_
                        refine g_widen (kc1 := 0) (ks1 := 0) (by omega) (by omega) ?_
                        exact ih2 (i + 1) g (by omega) (by omega) (hJ) (hS) (any_n hgr15 hany (Or.inr (Or.inl (can_n1 c24))))
                      · exact absurd c25 (by decide)
                    · have c24 := mt bI_0.mpr c24_
                      refine g_aload hX (pc := 174) dX16_isAsOne_2_174 0 rfl ?_
                      refine g_callV hX (pc := 176) kX12_isAnswered (mt_Request_isAnsweredM E l y17 r15 wq (hm21)) q710 fcX12 (sp_in 2 rfl hm21) [2] rfl rfl rfl (Nat.le_of_ble_eq_true rfl) (Nat.le_of_ble_eq_true rfl) (Nat.le_of_ble_eq_true rfl) (by omega) (by omega) dX16_isAsOne_2_176 (fun v w1 hp => ?_)
                      obtain ⟨rfl, rfl⟩ := hp
                      refine g_nrm (cs1 := [wq, [(h, ob 14 [.ref ha, .ref tr])], wh, [(tr, lA (aC E 1) 400 g)]]) (st1 := [.int (if rAns r15 = (-1) then 0 else 1)]) rfl rfl ?_
                      refine g_if_eq hX (pc := 179) (tgt := 196) dX16_isAsOne_2_179 rfl (fun c26_ => ?_) (fun c26_ => ?_)
                      · have c26 := z01.mp c26_
                        refine g_iconst hX (pc := 196) (v := 1) dX16_isAsOne_2_196 (by decide) ?_
                        refine g_goto hX (pc := 197) (tgt := 201) dX16_isAsOne_2_197 rfl ?_
                        refine g_istore hX (pc := 201) (lv1 := [(7, .int 1), (6, .ref y17), (5, .int (nI i)), (0, .ref h), (1, .int (nI s)), (2, .int (nI v))]) dX16_isAsOne_2_201 (by decide) rfl ?_
                        refine g_iload hX (pc := 203) dX16_isAsOne_2_203 0 rfl ?_
                        refine g_if_eq hX (pc := 205) (tgt := 229) dX16_isAsOne_2_205 rfl (fun c27 => ?_) (fun c27 => ?_)
                        · exact absurd c27 (by decide)
                        · refine g_aload_n hX (pc := 208) dX16_isAsOne_2_208 3 rfl ?_
                          refine g_iload_n hX (pc := 209) dX16_isAsOne_2_209 4 rfl ?_
                          refine g_iconst hX (pc := 210) (v := 1) dX16_isAsOne_2_210 (by decide) ?_
                          refine g_iload hX (pc := 211) dX16_isAsOne_2_211 2 rfl ?_
                          refine g_ishl hX (pc := 213) dX16_isAsOne_2_213 ?_
                          refine g_ior hX (pc := 214) dX16_isAsOne_2_214 ?_
                          refine g_eqi (nI (s ||| 1 <<< i)) (sb_or s hs i (by omega)) ?_
                          refine g_aload hX (pc := 215) dX16_isAsOne_2_215 1 rfl ?_
                          refine g_iload_n hX (pc := 217) dX16_isAsOne_2_217 5 rfl ?_
                          refine g_callV hX (pc := 218) kX12_behind (mt_Request_behindM E l y17 r15 wq (nI v) (hm21) ((hl.2 r15 (List.mem_of_getElem? hgr15)).1)) q722 fcX12 (sp_in 0 rfl hm21) [0] rfl rfl rfl (Nat.le_of_ble_eq_true rfl) (Nat.le_of_ble_eq_true rfl) (Nat.le_of_ble_eq_true rfl) (by omega) (by omega) dX16_isAsOne_2_218 (fun v w1 hp => ?_)
                          obtain ⟨rfl, rfl⟩ := hp
                          refine g_nrm (cs1 := [wq, [(h, ob 14 [.ref ha, .ref tr])], wh, [(tr, lA (aC E 1) 400 g)]]) (st1 := [.int (rqBeh (rK r15) (rA r15) (rB r15) (nI v)), .int (nI (s ||| 1 <<< i)), .ref h]) rfl rfl ?_
                          refine g_eqi (nI (hBeh r15 v)) ((beh_ok (hl.2 r15 (List.mem_of_getElem? hgr15)).2 hv).1) ?_
                          refine g_callV hX (pc := 221) kX16_isAsOne_2 (mt_History_isAsOne_1 E l h ha tr g gl wh wq (s ||| 1 <<< i) (hBeh r15 v) hw (hl) (sb_lt s hs i (by omega)) ((beh_ok (hl.2 r15 (List.mem_of_getElem? hgr15)).2 hv).2) (uns_call d2 hb hd) (TJ.pre hJ (sb_gt hb))) q706 fcX16 (sp_mem (i := 1) rfl) [1, 2, 1, 0] rfl rfl rfl (Nat.le_of_ble_eq_true rfl) (Nat.le_of_ble_eq_true rfl) (Nat.le_of_ble_eq_true rfl) (by omega) (by omega) dX16_isAsOne_2_221 (fun v w1 hp => ?_)
                          obtain ⟨f128, h29, h30, rfl, rfl⟩ := hp
                          refine g_nrm (cs1 := [[(h, ob 14 [.ref ha, .ref tr])], [(tr, lA (aC E 1) 400 f128)], wh, wq]) (st1 := [.int (bI (LIN gl (s ||| 1 <<< i) (hBeh r15 v)))]) rfl rfl ?_
                          refine g_if_eq hX (pc := 224) (tgt := 229) dX16_isAsOne_2_224 rfl (fun c31_ => ?_) (fun c31_ => ?_)
                          · have c31 := bI_0.mp c31_
                            refine g_iinc hX (pc := 229) (v := nI (i + 1)) (lv1 := [(5, .int (nI (i + 1))), (7, .int 1), (6, .ref y17), (0, .ref h), (1, .int (nI s)), (2, .int (nI v))]) dX16_isAsOne_2_229 2 rfl (nI_1 _) (by decide) rfl ?_
                            refine g_goto hX (pc := 232) (tgt := 125) dX16_isAsOne_2_232 rfl ?_
                            refine g_lv (lv1 := [(5, .int (nI (i + 1))), (0, .ref h), (1, .int (nI s)), (2, .int (nI v))]) [0, 3, 4, 5] rfl ?_
                            refine g_widen (kc1 := 0) (ks1 := 0) (by omega) (by omega) ?_
                            exact ih2 (i + 1) f128 (by omega) (by omega) (TJ.call hJ (sb_gt hb) h29 (h30 c31)) (TS.tr hS (Nat.le_of_lt (sb_gt hb)) h29) (any_n hgr15 hany (Or.inr (Or.inr c31)))
                          · have c31 := mt bI_0.mpr c31_
                            refine g_iconst hX (pc := 227) (v := 1) dX16_isAsOne_2_227 (by decide) ?_
                            refine g_zret hX (pc := 228) hR rfl ?_ (by omega) (by omega) dX16_isAsOne_2_228
                            have hL := LIN_y hl.1 d2 hgr15 hb (can_y (by simpa using c24) (Or.inl c26)) (by simpa using c31)
                            rw [hL]
                            exact ⟨_, TS.tr hS (Nat.le_of_lt (sb_gt hb)) h29, fun z => absurd z (by decide), rfl, rfl⟩
                      · have c26 := z01n.mp c26_
                        refine g_aload hX (pc := 182) dX16_isAsOne_2_182 0 rfl ?_
                        refine g_iload_n hX (pc := 184) dX16_isAsOne_2_184 4 rfl ?_
                        refine g_callV hX (pc := 185) kX12_told (mt_Request_toldM E l y17 r15 wq (nI v) (hm21) ((hl.2 r15 (List.mem_of_getElem? hgr15)).1)) q718 fcX12 (sp_in 0 rfl hm21) [0] rfl rfl rfl (Nat.le_of_ble_eq_true rfl) (Nat.le_of_ble_eq_true rfl) (Nat.le_of_ble_eq_true rfl) (by omega) (by omega) dX16_isAsOne_2_185 (fun v w1 hp => ?_)
                        obtain ⟨rfl, rfl⟩ := hp
                        refine g_nrm (cs1 := [wq, [(h, ob 14 [.ref ha, .ref tr])], wh, [(tr, lA (aC E 1) 400 g)]]) (st1 := [.int (rqTold (rK r15) (rA r15) (nI v))]) rfl rfl ?_
                        refine g_aload hX (pc := 188) dX16_isAsOne_2_188 0 rfl ?_
                        refine g_getNm hX (pc := 190) fcX12 (sp_in 0 rfl hm21) 5 (by decide) q1005 rfl (v := .int (rRes r15)) rfl dX16_isAsOne_2_190 ?_
                        refine g_icmp_ne hX (pc := 193) (tgt := 200) dX16_isAsOne_2_193 rfl (fun c32 => ?_) (fun c32 => ?_)
                        · refine g_iconst hX (pc := 200) (v := 0) dX16_isAsOne_2_200 (by decide) ?_
                          refine g_istore hX (pc := 201) (lv1 := [(7, .int 0), (6, .ref y17), (5, .int (nI i)), (0, .ref h), (1, .int (nI s)), (2, .int (nI v))]) dX16_isAsOne_2_201 (by decide) rfl ?_
                          refine g_iload hX (pc := 203) dX16_isAsOne_2_203 0 rfl ?_
                          refine g_if_eq hX (pc := 205) (tgt := 229) dX16_isAsOne_2_205 rfl (fun c33 => ?_) (fun c33 => ?_)
                          · refine g_iinc hX (pc := 229) (v := nI (i + 1)) (lv1 := [(5, .int (nI (i + 1))), (7, .int 0), (6, .ref y17), (0, .ref h), (1, .int (nI s)), (2, .int (nI v))]) dX16_isAsOne_2_229 2 rfl (nI_1 _) (by decide) rfl ?_
                            refine g_goto hX (pc := 232) (tgt := 125) dX16_isAsOne_2_232 rfl ?_
                            refine g_pk [1, 2, 1, 0] rfl ?_
                            refine g_cs (cs1 := [[(h, ob 14 [.ref ha, .ref tr])], [(tr, lA (aC E 1) 400 g)], wh, wq]) rfl ?_
                            refine g_lv (lv1 := [(5, .int (nI (i + 1))), (0, .ref h), (1, .int (nI s)), (2, .int (nI v))]) [0, 3, 4, 5] rfl ?_
                            refine g_widen (kc1 := 0) (ks1 := 0) (by omega) (by omega) ?_
                            exact ih2 (i + 1) g (by omega) (by omega) (hJ) (hS) (any_n hgr15 hany (Or.inr (Or.inl (can_n2 c26 c32))))
                          · exact absurd c33 (by decide)
                        · refine g_iconst hX (pc := 196) (v := 1) dX16_isAsOne_2_196 (by decide) ?_
                          refine g_goto hX (pc := 197) (tgt := 201) dX16_isAsOne_2_197 rfl ?_
                          refine g_istore hX (pc := 201) (lv1 := [(7, .int 1), (6, .ref y17), (5, .int (nI i)), (0, .ref h), (1, .int (nI s)), (2, .int (nI v))]) dX16_isAsOne_2_201 (by decide) rfl ?_
                          refine g_iload hX (pc := 203) dX16_isAsOne_2_203 0 rfl ?_
                          refine g_if_eq hX (pc := 205) (tgt := 229) dX16_isAsOne_2_205 rfl (fun c34 => ?_) (fun c34 => ?_)
                          · exact absurd c34 (by decide)
                          · refine g_aload_n hX (pc := 208) dX16_isAsOne_2_208 3 rfl ?_
                            refine g_iload_n hX (pc := 209) dX16_isAsOne_2_209 4 rfl ?_
                            refine g_iconst hX (pc := 210) (v := 1) dX16_isAsOne_2_210 (by decide) ?_
                            refine g_iload hX (pc := 211) dX16_isAsOne_2_211 2 rfl ?_
                            refine g_ishl hX (pc := 213) dX16_isAsOne_2_213 ?_
                            refine g_ior hX (pc := 214) dX16_isAsOne_2_214 ?_
                            refine g_eqi (nI (s ||| 1 <<< i)) (sb_or s hs i (by omega)) ?_
                            refine g_aload hX (pc := 215) dX16_isAsOne_2_215 1 rfl ?_
                            refine g_iload_n hX (pc := 217) dX16_isAsOne_2_217 5 rfl ?_
                            refine g_callV hX (pc := 218) kX12_behind (mt_Request_behindM E l y17 r15 wq (nI v) (hm21) ((hl.2 r15 (List.mem_of_getElem? hgr15)).1)) q722 fcX12 (sp_in 0 rfl hm21) [0] rfl rfl rfl (Nat.le_of_ble_eq_true rfl) (Nat.le_of_ble_eq_true rfl) (Nat.le_of_ble_eq_true rfl) (by omega) (by omega) dX16_isAsOne_2_218 (fun v w1 hp => ?_)
                            obtain ⟨rfl, rfl⟩ := hp
                            refine g_nrm (cs1 := [wq, [(h, ob 14 [.ref ha, .ref tr])], wh, [(tr, lA (aC E 1) 400 g)]]) (st1 := [.int (rqBeh (rK r15) (rA r15) (rB r15) (nI v)), .int (nI (s ||| 1 <<< i)), .ref h]) rfl rfl ?_
                            refine g_eqi (nI (hBeh r15 v)) ((beh_ok (hl.2 r15 (List.mem_of_getElem? hgr15)).2 hv).1) ?_
                            refine g_callV hX (pc := 221) kX16_isAsOne_2 (mt_History_isAsOne_1 E l h ha tr g gl wh wq (s ||| 1 <<< i) (hBeh r15 v) hw (hl) (sb_lt s hs i (by omega)) ((beh_ok (hl.2 r15 (List.mem_of_getElem? hgr15)).2 hv).2) (uns_call d2 hb hd) (TJ.pre hJ (sb_gt hb))) q706 fcX16 (sp_mem (i := 1) rfl) [1, 2, 1, 0] rfl rfl rfl (Nat.le_of_ble_eq_true rfl) (Nat.le_of_ble_eq_true rfl) (Nat.le_of_ble_eq_true rfl) (by omega) (by omega) dX16_isAsOne_2_221 (fun v w1 hp => ?_)
                            obtain ⟨f135, h36, h37, rfl, rfl⟩ := hp
                            refine g_nrm (cs1 := [[(h, ob 14 [.ref ha, .ref tr])], [(tr, lA (aC E 1) 400 f135)], wh, wq]) (st1 := [.int (bI (LIN gl (s ||| 1 <<< i) (hBeh r15 v)))]) rfl rfl ?_
                            refine g_if_eq hX (pc := 224) (tgt := 229) dX16_isAsOne_2_224 rfl (fun c38_ => ?_) (fun c38_ => ?_)
                            · have c38 := bI_0.mp c38_
                              refine g_iinc hX (pc := 229) (v := nI (i + 1)) (lv1 := [(5, .int (nI (i + 1))), (7, .int 1), (6, .ref y17), (0, .ref h), (1, .int (nI s)), (2, .int (nI v))]) dX16_isAsOne_2_229 2 rfl (nI_1 _) (by decide) rfl ?_
                              refine g_goto hX (pc := 232) (tgt := 125) dX16_isAsOne_2_232 rfl ?_
                              refine g_lv (lv1 := [(5, .int (nI (i + 1))), (0, .ref h), (1, .int (nI s)), (2, .int (nI v))]) [0, 3, 4, 5] rfl ?_
                              refine g_widen (kc1 := 0) (ks1 := 0) (by omega) (by omega) ?_
                              exact ih2 (i + 1) f135 (by omega) (by omega) (TJ.call hJ (sb_gt hb) h36 (h37 c38)) (TS.tr hS (Nat.le_of_lt (sb_gt hb)) h36) (any_n hgr15 hany (Or.inr (Or.inr c38)))
                            · have c38 := mt bI_0.mpr c38_
                              refine g_iconst hX (pc := 227) (v := 1) dX16_isAsOne_2_227 (by decide) ?_
                              refine g_zret hX (pc := 228) hR rfl ?_ (by omega) (by omega) dX16_isAsOne_2_228
                              have hL := LIN_y hl.1 d2 hgr15 hb (can_y (by simpa using c24) (Or.inr c32)) (by simpa using c38)
                              rw [hL]
                              exact ⟨_, TS.tr hS (Nat.le_of_lt (sb_gt hb)) h36, fun z => absurd z (by decide), rfl, rfl⟩
            refine g_pk [1, 1, 0, 0] rfl ?_
            refine g_cs (cs1 := [[(h, ob 14 [.ref ha, .ref tr])], [(tr, lA (aC E 1) 400 f2)], wh, wq]) rfl ?_
            refine g_lv (lv1 := [(5, .int (nI 0)), (0, .ref h), (1, .int (nI s)), (2, .int (nI v))]) [0, 3, 4, 5] rfl ?_
            refine g_widen (kc1 := 0) (ks1 := 0) (by omega) (by omega) ?_
            exact lp13 ((List.length gl - 0) + 1) 0 f2 (Nat.lt_succ_self _) (Nat.zero_le _) (hJ0) (hS0) (rfl)
          · refine g_iconst hX (pc := 100) (v := 0) dX16_isAsOne_2_100 (by decide) ?_
            refine g_pk [1, 1, 0, 0] rfl ?_
            refine g_cs (cs1 := [[(h, ob 14 [.ref ha, .ref tr])], [(tr, lA (aC E 1) 400 f)], wh, wq]) rfl ?_
            refine g_zret hX (pc := 101) hR rfl ?_ (by omega) (by omega) dX16_isAsOne_2_101
            have hL := hT s v (Nat.le_refl _) hv (lcmp_1.mp c12)
            rw [hL]
            exact ⟨_, fun _ _ _ _ => rfl, fun _ => hT, rfl, rfl⟩
        · have c11 := mt bI_0.mpr c11_
          refine g_iconst hX (pc := 67) (v := 1) dX16_isAsOne_2_67 (by decide) ?_
          refine g_pk [1, 1, 0, 0] rfl ?_
          refine g_cs (cs1 := [[(h, ob 14 [.ref ha, .ref tr])], [(tr, lA (aC E 1) 400 f)], wh, wq]) rfl ?_
          refine g_zret hX (pc := 68) hR rfl ?_ (by omega) (by omega) dX16_isAsOne_2_68
          have hL := LIN_d hl.1 (v := v) (by rw [← d1]; simpa using c11)
          rw [hL]
          exact ⟨_, fun _ _ _ _ => rfl, fun z => absurd z (by decide), rfl, rfl⟩
      · have d1 : k < List.length gl := by
          have := mt (nI_leI (by omega) (by omega)).mpr c10
          omega
        obtain ⟨r39, hgr39⟩ := get_ex (l := gl) (i := k) (d1)
        obtain ⟨as40, y41, hA42, hl43, hk44, hm45⟩ := HL.at hw hgr39
        refine g_iload_n hX (pc := 19) dX16_isAsOne_2_19 1 rfl ?_
        refine g_iload_n hX (pc := 20) dX16_isAsOne_2_20 3 rfl ?_
        refine g_iload hX (pc := 21) dX16_isAsOne_2_21 0 rfl ?_
        refine g_ishr hX (pc := 23) dX16_isAsOne_2_23 ?_
        refine g_iconst hX (pc := 24) (v := 1) dX16_isAsOne_2_24 (by decide) ?_
        refine g_iand hX (pc := 25) dX16_isAsOne_2_25 ?_
        refine g_eqi (bI (Nat.testBit s k)) (sb_get s hs k (by omega)) ?_
        refine g_iconst hX (pc := 26) (v := 1) dX16_isAsOne_2_26 (by decide) ?_
        refine g_icmp_eq hX (pc := 27) (tgt := 50) dX16_isAsOne_2_27 rfl (fun c46 => ?_) (fun c46 => ?_)
        · refine g_iconst hX (pc := 50) (v := 1) dX16_isAsOne_2_50 (by decide) ?_
          refine g_goto hX (pc := 51) (tgt := 55) dX16_isAsOne_2_51 rfl ?_
          refine g_iand hX (pc := 55) dX16_isAsOne_2_55 ?_
          refine g_eqi (bI (dnUp gl s (k + 1))) (dn_1 (Or.inl (bI_1.mp c46))) ?_
          refine g_istore_n hX (pc := 56) (lv1 := [(3, .int (bI (dnUp gl s (k + 1)))), (4, .int (nI k)), (0, .ref h), (1, .int (nI s)), (2, .int (nI v))]) dX16_isAsOne_2_56 (by decide) rfl ?_
          refine g_iinc hX (pc := 57) (v := nI (k + 1)) (lv1 := [(4, .int (nI (k + 1))), (3, .int (bI (dnUp gl s (k + 1)))), (0, .ref h), (1, .int (nI s)), (2, .int (nI v))]) dX16_isAsOne_2_57 1 rfl (nI_1 _) (by decide) rfl ?_
          refine g_goto hX (pc := 60) (tgt := 5) dX16_isAsOne_2_60 rfl ?_
          refine g_pk [1, 1, 0, 0] rfl ?_
          refine g_cs (cs1 := [[(h, ob 14 [.ref ha, .ref tr])], [(tr, lA (aC E 1) 400 f)], wh, wq]) rfl ?_
          refine g_widen (kc1 := 0) (ks1 := 0) (by omega) (by omega) ?_
          exact ih1 (k + 1) (by omega) (by omega)
        · refine g_aload_n hX (pc := 30) dX16_isAsOne_2_30 2 rfl ?_
          refine g_get hX (pc := 31) fcX16 1 rfl 0 (by decide) q695 rfl (v := .ref ha) rfl dX16_isAsOne_2_31 ?_
          refine g_iload hX (pc := 34) dX16_isAsOne_2_34 0 rfl ?_
          refine g_callF hX (pc := 36) kfJ2_get (mt_AL_get E l ha as40 wh k y41 hA42 (hk44)) q270 fcJ2 (sp_in 0 rfl hm9) [0] rfl rfl rfl (Nat.le_of_ble_eq_true rfl) (Nat.le_of_ble_eq_true rfl) (Nat.le_of_ble_eq_true rfl) (by omega) (by omega) dX16_isAsOne_2_36 (fun v w1 hp => ?_)
          obtain ⟨rfl, rfl⟩ := hp
          refine g_nrm (cs1 := [wh, [(h, ob 14 [.ref ha, .ref tr])], [(tr, lA (aC E 1) 400 f)], wq]) (st1 := [.ref y41, .int (bI (dnUp gl s k))]) rfl rfl ?_
          refine g_cast hX (pc := 41) fcX12 (sp_in 3 rfl hm45) q271 dX16_isAsOne_2_41 ?_
          refine g_callV hX (pc := 44) kX12_isAnswered (mt_Request_isAnsweredM E l y41 r39 wq (hm45)) q710 fcX12 (sp_in 3 rfl hm45) [3] rfl rfl rfl (Nat.le_of_ble_eq_true rfl) (Nat.le_of_ble_eq_true rfl) (Nat.le_of_ble_eq_true rfl) (by omega) (by omega) dX16_isAsOne_2_44 (fun v w1 hp => ?_)
          obtain ⟨rfl, rfl⟩ := hp
          refine g_nrm (cs1 := [wq, wh, [(h, ob 14 [.ref ha, .ref tr])], [(tr, lA (aC E 1) 400 f)]]) (st1 := [.int (if rAns r39 = (-1) then 0 else 1), .int (bI (dnUp gl s k))]) rfl rfl ?_
          refine g_if_ne hX (pc := 47) (tgt := 54) dX16_isAsOne_2_47 rfl (fun c47_ => ?_) (fun c47_ => ?_)
          · have c47 := z01n.mp c47_
            refine g_iconst hX (pc := 54) (v := 0) dX16_isAsOne_2_54 (by decide) ?_
            refine g_iand hX (pc := 55) dX16_isAsOne_2_55 ?_
            refine g_eqi (bI (dnUp gl s (k + 1))) (dn_0 (fun z => c46 (bI_1.mpr z)) (by rw [hG_e hgr39]; exact c47)) ?_
            refine g_istore_n hX (pc := 56) (lv1 := [(3, .int (bI (dnUp gl s (k + 1)))), (4, .int (nI k)), (0, .ref h), (1, .int (nI s)), (2, .int (nI v))]) dX16_isAsOne_2_56 (by decide) rfl ?_
            refine g_iinc hX (pc := 57) (v := nI (k + 1)) (lv1 := [(4, .int (nI (k + 1))), (3, .int (bI (dnUp gl s (k + 1)))), (0, .ref h), (1, .int (nI s)), (2, .int (nI v))]) dX16_isAsOne_2_57 1 rfl (nI_1 _) (by decide) rfl ?_
            refine g_goto hX (pc := 60) (tgt := 5) dX16_isAsOne_2_60 rfl ?_
            refine g_pk [2, 2, 1, 0] rfl ?_
            refine g_cs (cs1 := [[(h, ob 14 [.ref ha, .ref tr])], [(tr, lA (aC E 1) 400 f)], wh, wq]) rfl ?_
            refine g_widen (kc1 := 0) (ks1 := 0) (by omega) (by omega) ?_
            exact ih1 (k + 1) (by omega) (by omega)
          · have c47 := z01.mp c47_
            refine g_iconst hX (pc := 50) (v := 1) dX16_isAsOne_2_50 (by decide) ?_
            refine g_goto hX (pc := 51) (tgt := 55) dX16_isAsOne_2_51 rfl ?_
            refine g_iand hX (pc := 55) dX16_isAsOne_2_55 ?_
            refine g_eqi (bI (dnUp gl s (k + 1))) (dn_1 (Or.inr (by rw [hG_e hgr39]; exact c47))) ?_
            refine g_istore_n hX (pc := 56) (lv1 := [(3, .int (bI (dnUp gl s (k + 1)))), (4, .int (nI k)), (0, .ref h), (1, .int (nI s)), (2, .int (nI v))]) dX16_isAsOne_2_56 (by decide) rfl ?_
            refine g_iinc hX (pc := 57) (v := nI (k + 1)) (lv1 := [(4, .int (nI (k + 1))), (3, .int (bI (dnUp gl s (k + 1)))), (0, .ref h), (1, .int (nI s)), (2, .int (nI v))]) dX16_isAsOne_2_57 1 rfl (nI_1 _) (by decide) rfl ?_
            refine g_goto hX (pc := 60) (tgt := 5) dX16_isAsOne_2_60 rfl ?_
            refine g_pk [2, 2, 1, 0] rfl ?_
            refine g_cs (cs1 := [[(h, ob 14 [.ref ha, .ref tr])], [(tr, lA (aC E 1) 400 f)], wh, wq]) rfl ?_
            refine g_widen (kc1 := 0) (ks1 := 0) (by omega) (by omega) ?_
            exact ih1 (k + 1) (by omega) (by omega)
  refine g_widen (kc1 := 0) (ks1 := 0) (by omega) (by omega) ?_
  exact lp7 ((List.length gl - 0) + 1) 0 (Nat.lt_succ_self _) (Nat.zero_le _)

set_option maxHeartbeats 4000000 in
theorem mt_History_isAsOne_3 (E : EE) (l : Launch) (h : Nat) (ha : Nat) (tr : Nat) (f : Nat → Int64) (gl : List PR) (wh : va_W) (wq : va_W) (s : Nat) (v : Nat) (hw : HL E ha gl wq wh) (hl : (hOKl gl)) (hs : (s < 256)) (hv : (v < 100)) (hd : (unsUp s (List.length gl) ≤ 3)) (hT : (TI gl f s)) : Mt E l yX16_isAsOne_2 cX16_isAsOne_2 8 (some .boolean) 8 0 0 171 [.ref h, .int (nI s), .int (nI v)] [[(h, ob 14 [.ref ha, .ref tr])], [(tr, lA (aC E 1) 400 f)], wh, wq] (fun (v_ : Option Value) (cs_ : List va_W) => ∃ (f1 : Nat → Int64), (TS f f1 s) ∧ (LIN gl s v = false → TI gl f1 s) ∧ v_ = some (.int (bI (LIN gl s v))) ∧ cs_ = [[(h, ob 14 [.ref ha, .ref tr])], [(tr, lA (aC E 1) 400 f1)], wh, wq]) := by
  have hl8 := hl.1
  have hat64 : hAt s v / 64 < 400 := by show (s * 100 + v) / 64 < 400; omega
  have hat31 : hAt s v < 2 ^ 31 := by show s * 100 + v < 2 ^ 31; omega
  refine Mt.of (by decide) (Nat.le_of_ble_eq_true rfl) (fun X hX hR hin => ?_)
  refine g_lv1 (lv1 := [(0, .ref h), (1, .int (nI s)), (2, .int (nI v))]) rfl ?_
  obtain ⟨as1, hA2, hal3, hok4, hins5, hera6⟩ := HL.al hw
  refine g_iconst hX (pc := 0) (v := 1) dX16_isAsOne_2_0 (by decide) ?_
  refine g_eqi (bI (dnUp gl s 0)) (rfl) ?_
  refine g_istore_n hX (pc := 1) (lv1 := [(3, .int (bI (dnUp gl s 0))), (0, .ref h), (1, .int (nI s)), (2, .int (nI v))]) dX16_isAsOne_2_1 (by decide) rfl ?_
  refine g_iconst hX (pc := 2) (v := 0) dX16_isAsOne_2_2 (by decide) ?_
  refine g_eqi (nI 0) (nI_0.symm) ?_
  refine g_istore hX (pc := 3) (lv1 := [(4, .int (nI 0)), (3, .int (bI (dnUp gl s 0))), (0, .ref h), (1, .int (nI s)), (2, .int (nI v))]) dX16_isAsOne_2_3 (by decide) rfl ?_
  have lp7 : ∀ (F1 : Nat) (k : Nat), List.length gl - k < F1 → (k ≤ List.length gl) → G E l X [[(h, ob 14 [.ref ha, .ref tr])], [(tr, lA (aC E 1) 400 f)], wh, wq] 0 0 5 [(4, .int (nI k)), (3, .int (bI (dnUp gl s k))), (0, .ref h), (1, .int (nI s)), (2, .int (nI v))] [] := by
    intro F1
    induction F1 with
    | zero =>
      intro k hF hk
      exact absurd hF (Nat.not_lt_zero _)
    | succ F1 ih1 =>
      intro k hF hk
      refine g_iload hX (pc := 5) dX16_isAsOne_2_5 0 rfl ?_
      refine g_aload_n hX (pc := 7) dX16_isAsOne_2_7 2 rfl ?_
      refine g_get hX (pc := 8) fcX16 0 rfl 0 (by decide) q695 rfl (v := .ref ha) rfl dX16_isAsOne_2_8 ?_
      obtain ⟨fs8, hm9⟩ := AL.head hA2
      refine g_callF hX (pc := 11) kfJ2_size (mt_AL_size E l ha as1 wh hA2) q268 fcJ2 (sp_in 2 rfl hm9) [2] rfl rfl rfl (Nat.le_of_ble_eq_true rfl) (Nat.le_of_ble_eq_true rfl) (Nat.le_of_ble_eq_true rfl) (by omega) (by omega) dX16_isAsOne_2_11 (fun v w1 hp => ?_)
      obtain ⟨rfl, rfl⟩ := hp
      refine g_nrm (cs1 := [wh, [(h, ob 14 [.ref ha, .ref tr])], [(tr, lA (aC E 1) 400 f)], wq]) (st1 := [.int (nI (List.length as1)), .int (nI k)]) rfl rfl ?_
      refine g_eqi (nI (List.length gl)) (by rw [hal3]) ?_
      refine g_icmp_ge hX (pc := 16) (tgt := 63) dX16_isAsOne_2_16 rfl (fun c10 => ?_) (fun c10 => ?_)
      · have d1 : k = List.length gl := by
          have := (nI_leI (by omega) (by omega)).mp c10
          omega
        refine g_iload_n hX (pc := 63) dX16_isAsOne_2_63 1 rfl ?_
        refine g_if_eq hX (pc := 64) (tgt := 69) dX16_isAsOne_2_64 rfl (fun c11_ => ?_) (fun c11_ => ?_)
        · have c11 := bI_0.mp c11_
          have hdn : dnUp gl s (List.length gl) = false := by rw [← d1]; exact c11
          refine g_iload_n hX (pc := 69) dX16_isAsOne_2_69 3 rfl ?_
          refine g_bipush hX (pc := 70) (v := 100) dX16_isAsOne_2_70 (by decide) ?_
          refine g_imul hX (pc := 72) dX16_isAsOne_2_72 ?_
          refine g_eqi (nI (s * 100)) (by rw [show (100 : Int32) = nI 100 from rfl, pk_mul]) ?_
          refine g_iload_n hX (pc := 73) dX16_isAsOne_2_73 4 rfl ?_
          refine g_iadd hX (pc := 74) dX16_isAsOne_2_74 ?_
          refine g_eqi (nI (hAt s v)) (nI_add _ _) ?_
          refine g_istore hX (pc := 75) (lv1 := [(4, .int (nI (hAt s v))), (3, .int (bI (dnUp gl s k))), (0, .ref h), (1, .int (nI s)), (2, .int (nI v))]) dX16_isAsOne_2_75 (by decide) rfl ?_
          refine g_aload_n hX (pc := 77) dX16_isAsOne_2_77 2 rfl ?_
          refine g_get hX (pc := 78) fcX16 1 rfl 1 (by decide) q696 rfl (v := .ref tr) rfl dX16_isAsOne_2_78 ?_
          refine g_iload hX (pc := 81) dX16_isAsOne_2_81 0 rfl ?_
          refine g_bipush hX (pc := 83) (v := 64) dX16_isAsOne_2_83 (by decide) ?_
          refine g_idiv hX (pc := 85) dX16_isAsOne_2_85 (by decide) ?_
          refine g_eqi (nI (hAt s v / 64)) (by rw [show (64 : Int32) = nI 64 from rfl, pk_div (by omega) (by omega) (by omega)]) ?_
          refine g_lald hX (pc := 86) (sp_mem (i := 2) rfl) (v := f (hAt s v / 64)) (vp_in_nI hat64 (by omega)) (by rw [nI_clamp (by omega)]) dX16_isAsOne_2_86 ?_
          refine g_iload hX (pc := 87) dX16_isAsOne_2_87 0 rfl ?_
          refine g_bipush hX (pc := 89) (v := 64) dX16_isAsOne_2_89 (by decide) ?_
          refine g_irem hX (pc := 91) dX16_isAsOne_2_91 (by decide) ?_
          refine g_eqi (nI (hAt s v % 64)) (by rw [show (64 : Int32) = nI 64 from rfl, pk_rem (by omega) (by omega) (by omega)]) ?_
          refine g_lshr hX (pc := 92) (v := (f (hAt s v / 64)) >>> (Int32.toInt64 (nI (hAt s v % 64)) &&& 63)) dX16_isAsOne_2_92 rfl ?_
          refine g_lconst hX (pc := 93) (v := 1) dX16_isAsOne_2_93 (by decide) ?_
          refine g_land hX (pc := 94) dX16_isAsOne_2_94 ?_
          refine g_lconst hX (pc := 95) (v := 1) dX16_isAsOne_2_95 (by decide) ?_
          refine g_lcmp hX (pc := 96) dX16_isAsOne_2_96 ?_
          refine g_if_ne hX (pc := 97) (tgt := 102) dX16_isAsOne_2_97 rfl (fun c12 => ?_) (fun c12 => ?_)
          · refine g_aload_n hX (pc := 102) dX16_isAsOne_2_102 2 rfl ?_
            refine g_get hX (pc := 103) fcX16 1 rfl 1 (by decide) q696 rfl (v := .ref tr) rfl dX16_isAsOne_2_103 ?_
            refine g_iload hX (pc := 106) dX16_isAsOne_2_106 0 rfl ?_
            refine g_bipush hX (pc := 108) (v := 64) dX16_isAsOne_2_108 (by decide) ?_
            refine g_idiv hX (pc := 110) dX16_isAsOne_2_110 (by decide) ?_
            refine g_eqi (nI (hAt s v / 64)) (by rw [show (64 : Int32) = nI 64 from rfl, pk_div (by omega) (by omega) (by omega)]) ?_
            refine g_dup2_11 hX (pc := 111) dX16_isAsOne_2_111 rfl rfl ?_
            refine g_lald hX (pc := 112) (sp_mem (i := 2) rfl) (v := f (hAt s v / 64)) (vp_in_nI hat64 (by omega)) (by rw [nI_clamp (by omega)]) dX16_isAsOne_2_112 ?_
            refine g_lconst hX (pc := 113) (v := 1) dX16_isAsOne_2_113 (by decide) ?_
            refine g_iload hX (pc := 114) dX16_isAsOne_2_114 0 rfl ?_
            refine g_bipush hX (pc := 116) (v := 64) dX16_isAsOne_2_116 (by decide) ?_
            refine g_irem hX (pc := 118) dX16_isAsOne_2_118 (by decide) ?_
            refine g_eqi (nI (hAt s v % 64)) (by rw [show (64 : Int32) = nI 64 from rfl, pk_rem (by omega) (by omega) (by omega)]) ?_
            refine g_lshl hX (pc := 119) (v := 1 <<< (Int32.toInt64 (nI (hAt s v % 64)) &&& 63)) dX16_isAsOne_2_119 rfl ?_
            refine g_lor hX (pc := 120) dX16_isAsOne_2_120 ?_
            refine g_last hX (pc := 121) (f1 := (vp_updL f (hAt s v / 64) (f (hAt s v / 64) ||| 1 <<< (Int32.toInt64 (nI (hAt s v % 64)) &&& 63)))) (cs1 := [wh, [(h, ob 14 [.ref ha, .ref tr])], [(tr, lA (aC E 1) 400 (vp_updL f (hAt s v / 64) (f (hAt s v / 64) ||| 1 <<< (Int32.toInt64 (nI (hAt s v % 64)) &&& 63))))], wq]) 2 rfl (vp_in_nI hat64 (by omega)) (by rw [nI_clamp (by omega)]) rfl dX16_isAsOne_2_121 ?_
            obtain ⟨hJ0, hS0⟩ := TJ.mark hT hv
            generalize (vp_updL f (hAt s v / 64) (f (hAt s v / 64) ||| 1 <<< (Int32.toInt64 (nI (hAt s v % 64)) &&& 63))) = f2 at hJ0 hS0 ⊢
            refine g_iconst hX (pc := 122) (v := 0) dX16_isAsOne_2_122 (by decide) ?_
            refine g_eqi (nI 0) (nI_0.symm) ?_
            refine g_istore hX (pc := 123) (lv1 := [(5, .int (nI 0)), (4, .int (nI (hAt s v))), (3, .int (bI (dnUp gl s k))), (0, .ref h), (1, .int (nI s)), (2, .int (nI v))]) dX16_isAsOne_2_123 (by decide) rfl ?_
            have lp13 : ∀ (F2 : Nat) (i : Nat) (g : Nat → Int64), List.length gl - i < F2 → (i ≤ List.length gl) → (TJ gl g s v) → (TS f g s) → (anyUp gl s v i = false) → G E l X [[(h, ob 14 [.ref ha, .ref tr])], [(tr, lA (aC E 1) 400 g)], wh, wq] 0 0 125 [(5, .int (nI i)), (0, .ref h), (1, .int (nI s)), (2, .int (nI v))] [] := by
              intro F2
              induction F2 with
              | zero =>
                intro i g hF hi hJ hS hany
                exact absurd hF (Nat.not_lt_zero _)
              | succ F2 ih2 =>
                intro i g hF hi hJ hS hany
                refine g_iload hX (pc := 125) dX16_isAsOne_2_125 0 rfl ?_
                refine g_aload_n hX (pc := 127) dX16_isAsOne_2_127 1 rfl ?_
                refine g_get hX (pc := 128) fcX16 0 rfl 0 (by decide) q695 rfl (v := .ref ha) rfl dX16_isAsOne_2_128 ?_
                refine g_callF hX (pc := 131) kfJ2_size (mt_AL_size E l ha as1 wh hA2) q268 fcJ2 (sp_in 2 rfl hm9) [2] rfl rfl rfl (Nat.le_of_ble_eq_true rfl) (Nat.le_of_ble_eq_true rfl) (Nat.le_of_ble_eq_true rfl) (by omega) (by omega) dX16_isAsOne_2_131 (fun v w1 hp => ?_)
                obtain ⟨rfl, rfl⟩ := hp
                refine g_nrm (cs1 := [wh, [(h, ob 14 [.ref ha, .ref tr])], [(tr, lA (aC E 1) 400 g)], wq]) (st1 := [.int (nI (List.length as1)), .int (nI i)]) rfl rfl ?_
                refine g_eqi (nI (List.length gl)) (by rw [hal3]) ?_
                refine g_icmp_ge hX (pc := 136) (tgt := 235) dX16_isAsOne_2_136 rfl (fun c14 => ?_) (fun c14 => ?_)
                · have d2 : i = List.length gl := by
                    have := (nI_leI (by omega) (by omega)).mp c14
                    omega
                  have hany2 : anyUp gl s v (List.length gl) = false := by rw [← d2]; exact hany
                  refine g_iconst hX (pc := 235) (v := 0) dX16_isAsOne_2_235 (by decide) ?_
                  refine g_pk [1, 1, 0, 0] rfl ?_
                  refine g_cs (cs1 := [[(h, ob 14 [.ref ha, .ref tr])], [(tr, lA (aC E 1) 400 g)], wh, wq]) rfl ?_
                  refine g_zret hX (pc := 236) hR rfl ?_ (by omega) (by omega) dX16_isAsOne_2_236
                  have hL := LIN_n hl.1 (v := v) hdn hany2
                  rw [hL]
                  exact ⟨_, hS, fun _ => hJ.done hL, rfl, rfl⟩
                · have d2 : i < List.length gl := by
                    have := mt (nI_leI (by omega) (by omega)).mpr c14
                    omega
                  obtain ⟨r15, hgr15⟩ := get_ex (l := gl) (i := i) (d2)
                  obtain ⟨as16, y17, hA18, hl19, hk20, hm21⟩ := HL.at hw hgr15
                  refine g_aload_n hX (pc := 139) dX16_isAsOne_2_139 1 rfl ?_
                  refine g_get hX (pc := 140) fcX16 1 rfl 0 (by decide) q695 rfl (v := .ref ha) rfl dX16_isAsOne_2_140 ?_
                  refine g_iload hX (pc := 143) dX16_isAsOne_2_143 0 rfl ?_
                  refine g_callF hX (pc := 145) kfJ2_get (mt_AL_get E l ha as16 wh i y17 hA18 (hk20)) q270 fcJ2 (sp_in 0 rfl hm9) [0] rfl rfl rfl (Nat.le_of_ble_eq_true rfl) (Nat.le_of_ble_eq_true rfl) (Nat.le_of_ble_eq_true rfl) (by omega) (by omega) dX16_isAsOne_2_145 (fun v w1 hp => ?_)
                  obtain ⟨rfl, rfl⟩ := hp
                  refine g_nrm (cs1 := [wh, [(h, ob 14 [.ref ha, .ref tr])], [(tr, lA (aC E 1) 400 g)], wq]) (st1 := [.ref y17]) rfl rfl ?_
                  refine g_cast hX (pc := 150) fcX12 (sp_in 3 rfl hm21) q271 dX16_isAsOne_2_150 ?_
                  refine g_astore hX (pc := 153) (lv1 := [(6, .ref y17), (5, .int (nI i)), (0, .ref h), (1, .int (nI s)), (2, .int (nI v))]) dX16_isAsOne_2_153 (by decide) rfl ?_
                  refine g_iload_n hX (pc := 155) dX16_isAsOne_2_155 3 rfl ?_
                  refine g_iload hX (pc := 156) dX16_isAsOne_2_156 1 rfl ?_
                  refine g_ishr hX (pc := 158) dX16_isAsOne_2_158 ?_
                  refine g_iconst hX (pc := 159) (v := 1) dX16_isAsOne_2_159 (by decide) ?_
                  refine g_iand hX (pc := 160) dX16_isAsOne_2_160 ?_
                  refine g_eqi (bI (Nat.testBit s i)) (sb_get s hs i (by omega)) ?_
                  refine g_if_ne hX (pc := 161) (tgt := 200) dX16_isAsOne_2_161 rfl (fun c22_ => ?_) (fun c22_ => ?_)
                  · have c22 := mt bI_0.mpr c22_
                    refine g_iconst hX (pc := 200) (v := 0) dX16_isAsOne_2_200 (by decide) ?_
                    refine g_istore hX (pc := 201) (lv1 := [(7, .int 0), (6, .ref y17), (5, .int (nI i)), (0, .ref h), (1, .int (nI s)), (2, .int (nI v))]) dX16_isAsOne_2_201 (by decide) rfl ?_
                    refine g_iload hX (pc := 203) dX16_isAsOne_2_203 0 rfl ?_
                    refine g_if_eq hX (pc := 205) (tgt := 229) dX16_isAsOne_2_205 rfl (fun c23 => ?_) (fun c23 => ?_)
                    · refine g_iinc hX (pc := 229) (v := nI (i + 1)) (lv1 := [(5, .int (nI (i + 1))), (7, .int 0), (6, .ref y17), (0, .ref h), (1, .int (nI s)), (2, .int (nI v))]) dX16_isAsOne_2_229 2 rfl (nI_1 _) (by decide) rfl ?_
                      refine g_goto hX (pc := 232) (tgt := 125) dX16_isAsOne_2_232 rfl ?_
                      refine g_pk [1, 1, 0, 0] rfl ?_
                      refine g_cs (cs1 := [[(h, ob 14 [.ref ha, .ref tr])], [(tr, lA (aC E 1) 400 g)], wh, wq]) rfl ?_
                      refine g_lv (lv1 := [(5, .int (nI (i + 1))), (0, .ref h), (1, .int (nI s)), (2, .int (nI v))]) [0, 3, 4, 5] rfl ?_
                      refine g_widen (kc1 := 0) (ks1 := 0) (by omega) (by omega) ?_
                      exact ih2 (i + 1) g (by omega) (by omega) (hJ) (hS) (any_n hgr15 hany (Or.inl (by simpa using c22)))
                    · exact absurd c23 (by decide)
                  · have c22 := bI_0.mp c22_
                    have hb : Nat.testBit s i = false := c22
                    refine g_aload_n hX (pc := 164) dX16_isAsOne_2_164 2 rfl ?_
                    refine g_iload_n hX (pc := 165) dX16_isAsOne_2_165 3 rfl ?_
                    refine g_aload hX (pc := 166) dX16_isAsOne_2_166 0 rfl ?_
                    refine g_callV hX (pc := 168) kX16_isNext (mt_History_isNext E l h ha tr gl wh wq s y17 r15 hw (hm21) (hl.1) (hs)) q714 fcX16 (sp_mem (i := 1) rfl) [1, 0, 1] rfl rfl rfl (Nat.le_of_ble_eq_true rfl) (Nat.le_of_ble_eq_true rfl) (Nat.le_of_ble_eq_true rfl) (by omega) (by omega) dX16_isAsOne_2_168 (fun v w1 hp => ?_)
                    obtain ⟨rfl, rfl⟩ := hp
                    refine g_nrm (cs1 := [[(h, ob 14 [.ref ha, .ref tr])], wh, wq, [(tr, lA (aC E 1) 400 g)]]) (st1 := [.int (bI (nxUp gl s r15 (List.length gl)))]) rfl rfl ?_
                    refine g_if_eq hX (pc := 171) (tgt := 200) dX16_isAsOne_2_171 rfl (fun c24_ => ?_) (fun c24_ => ?_)
                    · have c24 := bI_0.mp c24_
                      refine g_iconst hX (pc := 200) (v := 0) dX16_isAsOne_2_200 (by decide) ?_
                      refine g_istore hX (pc := 201) (lv1 := [(7, .int 0), (6, .ref y17), (5, .int (nI i)), (0, .ref h), (1, .int (nI s)), (2, .int (nI v))]) dX16_isAsOne_2_201 (by decide) rfl ?_
                      refine g_iload hX (pc := 203) dX16_isAsOne_2_203 0 rfl ?_
                      refine g_if_eq hX (pc := 205) (tgt := 229) dX16_isAsOne_2_205 rfl (fun c25 => ?_) (fun c25 => ?_)
                      · refine g_iinc hX (pc := 229) (v := nI (i + 1)) (lv1 := [(5, .int (nI (i + 1))), (7, .int 0), (6, .ref y17), (0, .ref h), (1, .int (nI s)), (2, .int (nI v))]) dX16_isAsOne_2_229 2 rfl (nI_1 _) (by decide) rfl ?_
                        refine g_goto hX (pc := 232) (tgt := 125) dX16_isAsOne_2_232 rfl ?_
                        refine g_pk [0, 2, 0, 0] rfl ?_
                        refine g_cs (cs1 := [[(h, ob 14 [.ref ha, .ref tr])], [(tr, lA (aC E 1) 400 g)], wh, wq]) rfl ?_
                        refine g_lv (lv1 := [(5, .int (nI (i + 1))), (0, .ref h), (1, .int (nI s)), (2, .int (nI v))]) [0, 3, 4, 5] rfl ?_
                        refine g_widen (kc1 := 0) (ks1 := 0) (by omega) (by omega) ?_
                        exact ih2 (i + 1) g (by omega) (by omega) (hJ) (hS) (any_n hgr15 hany (Or.inr (Or.inl (can_n1 c24))))
                      · exact absurd c25 (by decide)
                    · have c24 := mt bI_0.mpr c24_
                      refine g_aload hX (pc := 174) dX16_isAsOne_2_174 0 rfl ?_
                      refine g_callV hX (pc := 176) kX12_isAnswered (mt_Request_isAnsweredM E l y17 r15 wq (hm21)) q710 fcX12 (sp_in 2 rfl hm21) [2] rfl rfl rfl (Nat.le_of_ble_eq_true rfl) (Nat.le_of_ble_eq_true rfl) (Nat.le_of_ble_eq_true rfl) (by omega) (by omega) dX16_isAsOne_2_176 (fun v w1 hp => ?_)
                      obtain ⟨rfl, rfl⟩ := hp
                      refine g_nrm (cs1 := [wq, [(h, ob 14 [.ref ha, .ref tr])], wh, [(tr, lA (aC E 1) 400 g)]]) (st1 := [.int (if rAns r15 = (-1) then 0 else 1)]) rfl rfl ?_
                      refine g_if_eq hX (pc := 179) (tgt := 196) dX16_isAsOne_2_179 rfl (fun c26_ => ?_) (fun c26_ => ?_)
                      · have c26 := z01.mp c26_
                        refine g_iconst hX (pc := 196) (v := 1) dX16_isAsOne_2_196 (by decide) ?_
                        refine g_goto hX (pc := 197) (tgt := 201) dX16_isAsOne_2_197 rfl ?_
                        refine g_istore hX (pc := 201) (lv1 := [(7, .int 1), (6, .ref y17), (5, .int (nI i)), (0, .ref h), (1, .int (nI s)), (2, .int (nI v))]) dX16_isAsOne_2_201 (by decide) rfl ?_
                        refine g_iload hX (pc := 203) dX16_isAsOne_2_203 0 rfl ?_
                        refine g_if_eq hX (pc := 205) (tgt := 229) dX16_isAsOne_2_205 rfl (fun c27 => ?_) (fun c27 => ?_)
                        · exact absurd c27 (by decide)
                        · refine g_aload_n hX (pc := 208) dX16_isAsOne_2_208 3 rfl ?_
                          refine g_iload_n hX (pc := 209) dX16_isAsOne_2_209 4 rfl ?_
                          refine g_iconst hX (pc := 210) (v := 1) dX16_isAsOne_2_210 (by decide) ?_
                          refine g_iload hX (pc := 211) dX16_isAsOne_2_211 2 rfl ?_
                          refine g_ishl hX (pc := 213) dX16_isAsOne_2_213 ?_
                          refine g_ior hX (pc := 214) dX16_isAsOne_2_214 ?_
                          refine g_eqi (nI (s ||| 1 <<< i)) (sb_or s hs i (by omega)) ?_
                          refine g_aload hX (pc := 215) dX16_isAsOne_2_215 1 rfl ?_
                          refine g_iload_n hX (pc := 217) dX16_isAsOne_2_217 5 rfl ?_
                          refine g_callV hX (pc := 218) kX12_behind (mt_Request_behindM E l y17 r15 wq (nI v) (hm21) ((hl.2 r15 (List.mem_of_getElem? hgr15)).1)) q722 fcX12 (sp_in 0 rfl hm21) [0] rfl rfl rfl (Nat.le_of_ble_eq_true rfl) (Nat.le_of_ble_eq_true rfl) (Nat.le_of_ble_eq_true rfl) (by omega) (by omega) dX16_isAsOne_2_218 (fun v w1 hp => ?_)
                          obtain ⟨rfl, rfl⟩ := hp
                          refine g_nrm (cs1 := [wq, [(h, ob 14 [.ref ha, .ref tr])], wh, [(tr, lA (aC E 1) 400 g)]]) (st1 := [.int (rqBeh (rK r15) (rA r15) (rB r15) (nI v)), .int (nI (s ||| 1 <<< i)), .ref h]) rfl rfl ?_
                          refine g_eqi (nI (hBeh r15 v)) ((beh_ok (hl.2 r15 (List.mem_of_getElem? hgr15)).2 hv).1) ?_
                          refine g_callV hX (pc := 221) kX16_isAsOne_2 (mt_History_isAsOne_2 E l h ha tr g gl wh wq (s ||| 1 <<< i) (hBeh r15 v) hw (hl) (sb_lt s hs i (by omega)) ((beh_ok (hl.2 r15 (List.mem_of_getElem? hgr15)).2 hv).2) (uns_call d2 hb hd) (TJ.pre hJ (sb_gt hb))) q706 fcX16 (sp_mem (i := 1) rfl) [1, 2, 1, 0] rfl rfl rfl (Nat.le_of_ble_eq_true rfl) (Nat.le_of_ble_eq_true rfl) (Nat.le_of_ble_eq_true rfl) (by omega) (by omega) dX16_isAsOne_2_221 (fun v w1 hp => ?_)
                          obtain ⟨f128, h29, h30, rfl, rfl⟩ := hp
                          refine g_nrm (cs1 := [[(h, ob 14 [.ref ha, .ref tr])], [(tr, lA (aC E 1) 400 f128)], wh, wq]) (st1 := [.int (bI (LIN gl (s ||| 1 <<< i) (hBeh r15 v)))]) rfl rfl ?_
                          refine g_if_eq hX (pc := 224) (tgt := 229) dX16_isAsOne_2_224 rfl (fun c31_ => ?_) (fun c31_ => ?_)
                          · have c31 := bI_0.mp c31_
                            refine g_iinc hX (pc := 229) (v := nI (i + 1)) (lv1 := [(5, .int (nI (i + 1))), (7, .int 1), (6, .ref y17), (0, .ref h), (1, .int (nI s)), (2, .int (nI v))]) dX16_isAsOne_2_229 2 rfl (nI_1 _) (by decide) rfl ?_
                            refine g_goto hX (pc := 232) (tgt := 125) dX16_isAsOne_2_232 rfl ?_
                            refine g_lv (lv1 := [(5, .int (nI (i + 1))), (0, .ref h), (1, .int (nI s)), (2, .int (nI v))]) [0, 3, 4, 5] rfl ?_
                            refine g_widen (kc1 := 0) (ks1 := 0) (by omega) (by omega) ?_
                            exact ih2 (i + 1) f128 (by omega) (by omega) (TJ.call hJ (sb_gt hb) h29 (h30 c31)) (TS.tr hS (Nat.le_of_lt (sb_gt hb)) h29) (any_n hgr15 hany (Or.inr (Or.inr c31)))
                          · have c31 := mt bI_0.mpr c31_
                            refine g_iconst hX (pc := 227) (v := 1) dX16_isAsOne_2_227 (by decide) ?_
                            refine g_zret hX (pc := 228) hR rfl ?_ (by omega) (by omega) dX16_isAsOne_2_228
                            have hL := LIN_y hl.1 d2 hgr15 hb (can_y (by simpa using c24) (Or.inl c26)) (by simpa using c31)
                            rw [hL]
                            exact ⟨_, TS.tr hS (Nat.le_of_lt (sb_gt hb)) h29, fun z => absurd z (by decide), rfl, rfl⟩
                      · have c26 := z01n.mp c26_
                        refine g_aload hX (pc := 182) dX16_isAsOne_2_182 0 rfl ?_
                        refine g_iload_n hX (pc := 184) dX16_isAsOne_2_184 4 rfl ?_
                        refine g_callV hX (pc := 185) kX12_told (mt_Request_toldM E l y17 r15 wq (nI v) (hm21) ((hl.2 r15 (List.mem_of_getElem? hgr15)).1)) q718 fcX12 (sp_in 0 rfl hm21) [0] rfl rfl rfl (Nat.le_of_ble_eq_true rfl) (Nat.le_of_ble_eq_true rfl) (Nat.le_of_ble_eq_true rfl) (by omega) (by omega) dX16_isAsOne_2_185 (fun v w1 hp => ?_)
                        obtain ⟨rfl, rfl⟩ := hp
                        refine g_nrm (cs1 := [wq, [(h, ob 14 [.ref ha, .ref tr])], wh, [(tr, lA (aC E 1) 400 g)]]) (st1 := [.int (rqTold (rK r15) (rA r15) (nI v))]) rfl rfl ?_
                        refine g_aload hX (pc := 188) dX16_isAsOne_2_188 0 rfl ?_
                        refine g_getNm hX (pc := 190) fcX12 (sp_in 0 rfl hm21) 5 (by decide) q1005 rfl (v := .int (rRes r15)) rfl dX16_isAsOne_2_190 ?_
                        refine g_icmp_ne hX (pc := 193) (tgt := 200) dX16_isAsOne_2_193 rfl (fun c32 => ?_) (fun c32 => ?_)
                        · refine g_iconst hX (pc := 200) (v := 0) dX16_isAsOne_2_200 (by decide) ?_
                          refine g_istore hX (pc := 201) (lv1 := [(7, .int 0), (6, .ref y17), (5, .int (nI i)), (0, .ref h), (1, .int (nI s)), (2, .int (nI v))]) dX16_isAsOne_2_201 (by decide) rfl ?_
                          refine g_iload hX (pc := 203) dX16_isAsOne_2_203 0 rfl ?_
                          refine g_if_eq hX (pc := 205) (tgt := 229) dX16_isAsOne_2_205 rfl (fun c33 => ?_) (fun c33 => ?_)
                          · refine g_iinc hX (pc := 229) (v := nI (i + 1)) (lv1 := [(5, .int (nI (i + 1))), (7, .int 0), (6, .ref y17), (0, .ref h), (1, .int (nI s)), (2, .int (nI v))]) dX16_isAsOne_2_229 2 rfl (nI_1 _) (by decide) rfl ?_
                            refine g_goto hX (pc := 232) (tgt := 125) dX16_isAsOne_2_232 rfl ?_
                            refine g_pk [1, 2, 1, 0] rfl ?_
                            refine g_cs (cs1 := [[(h, ob 14 [.ref ha, .ref tr])], [(tr, lA (aC E 1) 400 g)], wh, wq]) rfl ?_
                            refine g_lv (lv1 := [(5, .int (nI (i + 1))), (0, .ref h), (1, .int (nI s)), (2, .int (nI v))]) [0, 3, 4, 5] rfl ?_
                            refine g_widen (kc1 := 0) (ks1 := 0) (by omega) (by omega) ?_
                            exact ih2 (i + 1) g (by omega) (by omega) (hJ) (hS) (any_n hgr15 hany (Or.inr (Or.inl (can_n2 c26 c32))))
                          · exact absurd c33 (by decide)
                        · refine g_iconst hX (pc := 196) (v := 1) dX16_isAsOne_2_196 (by decide) ?_
                          refine g_goto hX (pc := 197) (tgt := 201) dX16_isAsOne_2_197 rfl ?_
                          refine g_istore hX (pc := 201) (lv1 := [(7, .int 1), (6, .ref y17), (5, .int (nI i)), (0, .ref h), (1, .int (nI s)), (2, .int (nI v))]) dX16_isAsOne_2_201 (by decide) rfl ?_
                          refine g_iload hX (pc := 203) dX16_isAsOne_2_203 0 rfl ?_
                          refine g_if_eq hX (pc := 205) (tgt := 229) dX16_isAsOne_2_205 rfl (fun c34 => ?_) (fun c34 => ?_)
                          · exact absurd c34 (by decide)
                          · refine g_aload_n hX (pc := 208) dX16_isAsOne_2_208 3 rfl ?_
                            refine g_iload_n hX (pc := 209) dX16_isAsOne_2_209 4 rfl ?_
                            refine g_iconst hX (pc := 210) (v := 1) dX16_isAsOne_2_210 (by decide) ?_
                            refine g_iload hX (pc := 211) dX16_isAsOne_2_211 2 rfl ?_
                            refine g_ishl hX (pc := 213) dX16_isAsOne_2_213 ?_
                            refine g_ior hX (pc := 214) dX16_isAsOne_2_214 ?_
                            refine g_eqi (nI (s ||| 1 <<< i)) (sb_or s hs i (by omega)) ?_
                            refine g_aload hX (pc := 215) dX16_isAsOne_2_215 1 rfl ?_
                            refine g_iload_n hX (pc := 217) dX16_isAsOne_2_217 5 rfl ?_
                            refine g_callV hX (pc := 218) kX12_behind (mt_Request_behindM E l y17 r15 wq (nI v) (hm21) ((hl.2 r15 (List.mem_of_getElem? hgr15)).1)) q722 fcX12 (sp_in 0 rfl hm21) [0] rfl rfl rfl (Nat.le_of_ble_eq_true rfl) (Nat.le_of_ble_eq_true rfl) (Nat.le_of_ble_eq_true rfl) (by omega) (by omega) dX16_isAsOne_2_218 (fun v w1 hp => ?_)
                            obtain ⟨rfl, rfl⟩ := hp
                            refine g_nrm (cs1 := [wq, [(h, ob 14 [.ref ha, .ref tr])], wh, [(tr, lA (aC E 1) 400 g)]]) (st1 := [.int (rqBeh (rK r15) (rA r15) (rB r15) (nI v)), .int (nI (s ||| 1 <<< i)), .ref h]) rfl rfl ?_
                            refine g_eqi (nI (hBeh r15 v)) ((beh_ok (hl.2 r15 (List.mem_of_getElem? hgr15)).2 hv).1) ?_
                            refine g_callV hX (pc := 221) kX16_isAsOne_2 (mt_History_isAsOne_2 E l h ha tr g gl wh wq (s ||| 1 <<< i) (hBeh r15 v) hw (hl) (sb_lt s hs i (by omega)) ((beh_ok (hl.2 r15 (List.mem_of_getElem? hgr15)).2 hv).2) (uns_call d2 hb hd) (TJ.pre hJ (sb_gt hb))) q706 fcX16 (sp_mem (i := 1) rfl) [1, 2, 1, 0] rfl rfl rfl (Nat.le_of_ble_eq_true rfl) (Nat.le_of_ble_eq_true rfl) (Nat.le_of_ble_eq_true rfl) (by omega) (by omega) dX16_isAsOne_2_221 (fun v w1 hp => ?_)
                            obtain ⟨f135, h36, h37, rfl, rfl⟩ := hp
                            refine g_nrm (cs1 := [[(h, ob 14 [.ref ha, .ref tr])], [(tr, lA (aC E 1) 400 f135)], wh, wq]) (st1 := [.int (bI (LIN gl (s ||| 1 <<< i) (hBeh r15 v)))]) rfl rfl ?_
                            refine g_if_eq hX (pc := 224) (tgt := 229) dX16_isAsOne_2_224 rfl (fun c38_ => ?_) (fun c38_ => ?_)
                            · have c38 := bI_0.mp c38_
                              refine g_iinc hX (pc := 229) (v := nI (i + 1)) (lv1 := [(5, .int (nI (i + 1))), (7, .int 1), (6, .ref y17), (0, .ref h), (1, .int (nI s)), (2, .int (nI v))]) dX16_isAsOne_2_229 2 rfl (nI_1 _) (by decide) rfl ?_
                              refine g_goto hX (pc := 232) (tgt := 125) dX16_isAsOne_2_232 rfl ?_
                              refine g_lv (lv1 := [(5, .int (nI (i + 1))), (0, .ref h), (1, .int (nI s)), (2, .int (nI v))]) [0, 3, 4, 5] rfl ?_
                              refine g_widen (kc1 := 0) (ks1 := 0) (by omega) (by omega) ?_
                              exact ih2 (i + 1) f135 (by omega) (by omega) (TJ.call hJ (sb_gt hb) h36 (h37 c38)) (TS.tr hS (Nat.le_of_lt (sb_gt hb)) h36) (any_n hgr15 hany (Or.inr (Or.inr c38)))
                            · have c38 := mt bI_0.mpr c38_
                              refine g_iconst hX (pc := 227) (v := 1) dX16_isAsOne_2_227 (by decide) ?_
                              refine g_zret hX (pc := 228) hR rfl ?_ (by omega) (by omega) dX16_isAsOne_2_228
                              have hL := LIN_y hl.1 d2 hgr15 hb (can_y (by simpa using c24) (Or.inr c32)) (by simpa using c38)
                              rw [hL]
                              exact ⟨_, TS.tr hS (Nat.le_of_lt (sb_gt hb)) h36, fun z => absurd z (by decide), rfl, rfl⟩
            refine g_pk [1, 1, 0, 0] rfl ?_
            refine g_cs (cs1 := [[(h, ob 14 [.ref ha, .ref tr])], [(tr, lA (aC E 1) 400 f2)], wh, wq]) rfl ?_
            refine g_lv (lv1 := [(5, .int (nI 0)), (0, .ref h), (1, .int (nI s)), (2, .int (nI v))]) [0, 3, 4, 5] rfl ?_
            refine g_widen (kc1 := 0) (ks1 := 0) (by omega) (by omega) ?_
            exact lp13 ((List.length gl - 0) + 1) 0 f2 (Nat.lt_succ_self _) (Nat.zero_le _) (hJ0) (hS0) (rfl)
          · refine g_iconst hX (pc := 100) (v := 0) dX16_isAsOne_2_100 (by decide) ?_
            refine g_pk [1, 1, 0, 0] rfl ?_
            refine g_cs (cs1 := [[(h, ob 14 [.ref ha, .ref tr])], [(tr, lA (aC E 1) 400 f)], wh, wq]) rfl ?_
            refine g_zret hX (pc := 101) hR rfl ?_ (by omega) (by omega) dX16_isAsOne_2_101
            have hL := hT s v (Nat.le_refl _) hv (lcmp_1.mp c12)
            rw [hL]
            exact ⟨_, fun _ _ _ _ => rfl, fun _ => hT, rfl, rfl⟩
        · have c11 := mt bI_0.mpr c11_
          refine g_iconst hX (pc := 67) (v := 1) dX16_isAsOne_2_67 (by decide) ?_
          refine g_pk [1, 1, 0, 0] rfl ?_
          refine g_cs (cs1 := [[(h, ob 14 [.ref ha, .ref tr])], [(tr, lA (aC E 1) 400 f)], wh, wq]) rfl ?_
          refine g_zret hX (pc := 68) hR rfl ?_ (by omega) (by omega) dX16_isAsOne_2_68
          have hL := LIN_d hl.1 (v := v) (by rw [← d1]; simpa using c11)
          rw [hL]
          exact ⟨_, fun _ _ _ _ => rfl, fun z => absurd z (by decide), rfl, rfl⟩
      · have d1 : k < List.length gl := by
          have := mt (nI_leI (by omega) (by omega)).mpr c10
          omega
        obtain ⟨r39, hgr39⟩ := get_ex (l := gl) (i := k) (d1)
        obtain ⟨as40, y41, hA42, hl43, hk44, hm45⟩ := HL.at hw hgr39
        refine g_iload_n hX (pc := 19) dX16_isAsOne_2_19 1 rfl ?_
        refine g_iload_n hX (pc := 20) dX16_isAsOne_2_20 3 rfl ?_
        refine g_iload hX (pc := 21) dX16_isAsOne_2_21 0 rfl ?_
        refine g_ishr hX (pc := 23) dX16_isAsOne_2_23 ?_
        refine g_iconst hX (pc := 24) (v := 1) dX16_isAsOne_2_24 (by decide) ?_
        refine g_iand hX (pc := 25) dX16_isAsOne_2_25 ?_
        refine g_eqi (bI (Nat.testBit s k)) (sb_get s hs k (by omega)) ?_
        refine g_iconst hX (pc := 26) (v := 1) dX16_isAsOne_2_26 (by decide) ?_
        refine g_icmp_eq hX (pc := 27) (tgt := 50) dX16_isAsOne_2_27 rfl (fun c46 => ?_) (fun c46 => ?_)
        · refine g_iconst hX (pc := 50) (v := 1) dX16_isAsOne_2_50 (by decide) ?_
          refine g_goto hX (pc := 51) (tgt := 55) dX16_isAsOne_2_51 rfl ?_
          refine g_iand hX (pc := 55) dX16_isAsOne_2_55 ?_
          refine g_eqi (bI (dnUp gl s (k + 1))) (dn_1 (Or.inl (bI_1.mp c46))) ?_
          refine g_istore_n hX (pc := 56) (lv1 := [(3, .int (bI (dnUp gl s (k + 1)))), (4, .int (nI k)), (0, .ref h), (1, .int (nI s)), (2, .int (nI v))]) dX16_isAsOne_2_56 (by decide) rfl ?_
          refine g_iinc hX (pc := 57) (v := nI (k + 1)) (lv1 := [(4, .int (nI (k + 1))), (3, .int (bI (dnUp gl s (k + 1)))), (0, .ref h), (1, .int (nI s)), (2, .int (nI v))]) dX16_isAsOne_2_57 1 rfl (nI_1 _) (by decide) rfl ?_
          refine g_goto hX (pc := 60) (tgt := 5) dX16_isAsOne_2_60 rfl ?_
          refine g_pk [1, 1, 0, 0] rfl ?_
          refine g_cs (cs1 := [[(h, ob 14 [.ref ha, .ref tr])], [(tr, lA (aC E 1) 400 f)], wh, wq]) rfl ?_
          refine g_widen (kc1 := 0) (ks1 := 0) (by omega) (by omega) ?_
          exact ih1 (k + 1) (by omega) (by omega)
        · refine g_aload_n hX (pc := 30) dX16_isAsOne_2_30 2 rfl ?_
          refine g_get hX (pc := 31) fcX16 1 rfl 0 (by decide) q695 rfl (v := .ref ha) rfl dX16_isAsOne_2_31 ?_
          refine g_iload hX (pc := 34) dX16_isAsOne_2_34 0 rfl ?_
          refine g_callF hX (pc := 36) kfJ2_get (mt_AL_get E l ha as40 wh k y41 hA42 (hk44)) q270 fcJ2 (sp_in 0 rfl hm9) [0] rfl rfl rfl (Nat.le_of_ble_eq_true rfl) (Nat.le_of_ble_eq_true rfl) (Nat.le_of_ble_eq_true rfl) (by omega) (by omega) dX16_isAsOne_2_36 (fun v w1 hp => ?_)
          obtain ⟨rfl, rfl⟩ := hp
          refine g_nrm (cs1 := [wh, [(h, ob 14 [.ref ha, .ref tr])], [(tr, lA (aC E 1) 400 f)], wq]) (st1 := [.ref y41, .int (bI (dnUp gl s k))]) rfl rfl ?_
          refine g_cast hX (pc := 41) fcX12 (sp_in 3 rfl hm45) q271 dX16_isAsOne_2_41 ?_
          refine g_callV hX (pc := 44) kX12_isAnswered (mt_Request_isAnsweredM E l y41 r39 wq (hm45)) q710 fcX12 (sp_in 3 rfl hm45) [3] rfl rfl rfl (Nat.le_of_ble_eq_true rfl) (Nat.le_of_ble_eq_true rfl) (Nat.le_of_ble_eq_true rfl) (by omega) (by omega) dX16_isAsOne_2_44 (fun v w1 hp => ?_)
          obtain ⟨rfl, rfl⟩ := hp
          refine g_nrm (cs1 := [wq, wh, [(h, ob 14 [.ref ha, .ref tr])], [(tr, lA (aC E 1) 400 f)]]) (st1 := [.int (if rAns r39 = (-1) then 0 else 1), .int (bI (dnUp gl s k))]) rfl rfl ?_
          refine g_if_ne hX (pc := 47) (tgt := 54) dX16_isAsOne_2_47 rfl (fun c47_ => ?_) (fun c47_ => ?_)
          · have c47 := z01n.mp c47_
            refine g_iconst hX (pc := 54) (v := 0) dX16_isAsOne_2_54 (by decide) ?_
            refine g_iand hX (pc := 55) dX16_isAsOne_2_55 ?_
            refine g_eqi (bI (dnUp gl s (k + 1))) (dn_0 (fun z => c46 (bI_1.mpr z)) (by rw [hG_e hgr39]; exact c47)) ?_
            refine g_istore_n hX (pc := 56) (lv1 := [(3, .int (bI (dnUp gl s (k + 1)))), (4, .int (nI k)), (0, .ref h), (1, .int (nI s)), (2, .int (nI v))]) dX16_isAsOne_2_56 (by decide) rfl ?_
            refine g_iinc hX (pc := 57) (v := nI (k + 1)) (lv1 := [(4, .int (nI (k + 1))), (3, .int (bI (dnUp gl s (k + 1)))), (0, .ref h), (1, .int (nI s)), (2, .int (nI v))]) dX16_isAsOne_2_57 1 rfl (nI_1 _) (by decide) rfl ?_
            refine g_goto hX (pc := 60) (tgt := 5) dX16_isAsOne_2_60 rfl ?_
            refine g_pk [2, 2, 1, 0] rfl ?_
            refine g_cs (cs1 := [[(h, ob 14 [.ref ha, .ref tr])], [(tr, lA (aC E 1) 400 f)], wh, wq]) rfl ?_
            refine g_widen (kc1 := 0) (ks1 := 0) (by omega) (by omega) ?_
            exact ih1 (k + 1) (by omega) (by omega)
          · have c47 := z01.mp c47_
            refine g_iconst hX (pc := 50) (v := 1) dX16_isAsOne_2_50 (by decide) ?_
            refine g_goto hX (pc := 51) (tgt := 55) dX16_isAsOne_2_51 rfl ?_
            refine g_iand hX (pc := 55) dX16_isAsOne_2_55 ?_
            refine g_eqi (bI (dnUp gl s (k + 1))) (dn_1 (Or.inr (by rw [hG_e hgr39]; exact c47))) ?_
            refine g_istore_n hX (pc := 56) (lv1 := [(3, .int (bI (dnUp gl s (k + 1)))), (4, .int (nI k)), (0, .ref h), (1, .int (nI s)), (2, .int (nI v))]) dX16_isAsOne_2_56 (by decide) rfl ?_
            refine g_iinc hX (pc := 57) (v := nI (k + 1)) (lv1 := [(4, .int (nI (k + 1))), (3, .int (bI (dnUp gl s (k + 1)))), (0, .ref h), (1, .int (nI s)), (2, .int (nI v))]) dX16_isAsOne_2_57 1 rfl (nI_1 _) (by decide) rfl ?_
            refine g_goto hX (pc := 60) (tgt := 5) dX16_isAsOne_2_60 rfl ?_
            refine g_pk [2, 2, 1, 0] rfl ?_
            refine g_cs (cs1 := [[(h, ob 14 [.ref ha, .ref tr])], [(tr, lA (aC E 1) 400 f)], wh, wq]) rfl ?_
            refine g_widen (kc1 := 0) (ks1 := 0) (by omega) (by omega) ?_
            exact ih1 (k + 1) (by omega) (by omega)
  refine g_widen (kc1 := 0) (ks1 := 0) (by omega) (by omega) ?_
  exact lp7 ((List.length gl - 0) + 1) 0 (Nat.lt_succ_self _) (Nat.zero_le _)

set_option maxHeartbeats 4000000 in
theorem mt_History_isAsOne_4 (E : EE) (l : Launch) (h : Nat) (ha : Nat) (tr : Nat) (f : Nat → Int64) (gl : List PR) (wh : va_W) (wq : va_W) (s : Nat) (v : Nat) (hw : HL E ha gl wq wh) (hl : (hOKl gl)) (hs : (s < 256)) (hv : (v < 100)) (hd : (unsUp s (List.length gl) ≤ 4)) (hT : (TI gl f s)) : Mt E l yX16_isAsOne_2 cX16_isAsOne_2 8 (some .boolean) 9 0 0 198 [.ref h, .int (nI s), .int (nI v)] [[(h, ob 14 [.ref ha, .ref tr])], [(tr, lA (aC E 1) 400 f)], wh, wq] (fun (v_ : Option Value) (cs_ : List va_W) => ∃ (f1 : Nat → Int64), (TS f f1 s) ∧ (LIN gl s v = false → TI gl f1 s) ∧ v_ = some (.int (bI (LIN gl s v))) ∧ cs_ = [[(h, ob 14 [.ref ha, .ref tr])], [(tr, lA (aC E 1) 400 f1)], wh, wq]) := by
  have hl8 := hl.1
  have hat64 : hAt s v / 64 < 400 := by show (s * 100 + v) / 64 < 400; omega
  have hat31 : hAt s v < 2 ^ 31 := by show s * 100 + v < 2 ^ 31; omega
  refine Mt.of (by decide) (Nat.le_of_ble_eq_true rfl) (fun X hX hR hin => ?_)
  refine g_lv1 (lv1 := [(0, .ref h), (1, .int (nI s)), (2, .int (nI v))]) rfl ?_
  obtain ⟨as1, hA2, hal3, hok4, hins5, hera6⟩ := HL.al hw
  refine g_iconst hX (pc := 0) (v := 1) dX16_isAsOne_2_0 (by decide) ?_
  refine g_eqi (bI (dnUp gl s 0)) (rfl) ?_
  refine g_istore_n hX (pc := 1) (lv1 := [(3, .int (bI (dnUp gl s 0))), (0, .ref h), (1, .int (nI s)), (2, .int (nI v))]) dX16_isAsOne_2_1 (by decide) rfl ?_
  refine g_iconst hX (pc := 2) (v := 0) dX16_isAsOne_2_2 (by decide) ?_
  refine g_eqi (nI 0) (nI_0.symm) ?_
  refine g_istore hX (pc := 3) (lv1 := [(4, .int (nI 0)), (3, .int (bI (dnUp gl s 0))), (0, .ref h), (1, .int (nI s)), (2, .int (nI v))]) dX16_isAsOne_2_3 (by decide) rfl ?_
  have lp7 : ∀ (F1 : Nat) (k : Nat), List.length gl - k < F1 → (k ≤ List.length gl) → G E l X [[(h, ob 14 [.ref ha, .ref tr])], [(tr, lA (aC E 1) 400 f)], wh, wq] 0 0 5 [(4, .int (nI k)), (3, .int (bI (dnUp gl s k))), (0, .ref h), (1, .int (nI s)), (2, .int (nI v))] [] := by
    intro F1
    induction F1 with
    | zero =>
      intro k hF hk
      exact absurd hF (Nat.not_lt_zero _)
    | succ F1 ih1 =>
      intro k hF hk
      refine g_iload hX (pc := 5) dX16_isAsOne_2_5 0 rfl ?_
      refine g_aload_n hX (pc := 7) dX16_isAsOne_2_7 2 rfl ?_
      refine g_get hX (pc := 8) fcX16 0 rfl 0 (by decide) q695 rfl (v := .ref ha) rfl dX16_isAsOne_2_8 ?_
      obtain ⟨fs8, hm9⟩ := AL.head hA2
      refine g_callF hX (pc := 11) kfJ2_size (mt_AL_size E l ha as1 wh hA2) q268 fcJ2 (sp_in 2 rfl hm9) [2] rfl rfl rfl (Nat.le_of_ble_eq_true rfl) (Nat.le_of_ble_eq_true rfl) (Nat.le_of_ble_eq_true rfl) (by omega) (by omega) dX16_isAsOne_2_11 (fun v w1 hp => ?_)
      obtain ⟨rfl, rfl⟩ := hp
      refine g_nrm (cs1 := [wh, [(h, ob 14 [.ref ha, .ref tr])], [(tr, lA (aC E 1) 400 f)], wq]) (st1 := [.int (nI (List.length as1)), .int (nI k)]) rfl rfl ?_
      refine g_eqi (nI (List.length gl)) (by rw [hal3]) ?_
      refine g_icmp_ge hX (pc := 16) (tgt := 63) dX16_isAsOne_2_16 rfl (fun c10 => ?_) (fun c10 => ?_)
      · have d1 : k = List.length gl := by
          have := (nI_leI (by omega) (by omega)).mp c10
          omega
        refine g_iload_n hX (pc := 63) dX16_isAsOne_2_63 1 rfl ?_
        refine g_if_eq hX (pc := 64) (tgt := 69) dX16_isAsOne_2_64 rfl (fun c11_ => ?_) (fun c11_ => ?_)
        · have c11 := bI_0.mp c11_
          have hdn : dnUp gl s (List.length gl) = false := by rw [← d1]; exact c11
          refine g_iload_n hX (pc := 69) dX16_isAsOne_2_69 3 rfl ?_
          refine g_bipush hX (pc := 70) (v := 100) dX16_isAsOne_2_70 (by decide) ?_
          refine g_imul hX (pc := 72) dX16_isAsOne_2_72 ?_
          refine g_eqi (nI (s * 100)) (by rw [show (100 : Int32) = nI 100 from rfl, pk_mul]) ?_
          refine g_iload_n hX (pc := 73) dX16_isAsOne_2_73 4 rfl ?_
          refine g_iadd hX (pc := 74) dX16_isAsOne_2_74 ?_
          refine g_eqi (nI (hAt s v)) (nI_add _ _) ?_
          refine g_istore hX (pc := 75) (lv1 := [(4, .int (nI (hAt s v))), (3, .int (bI (dnUp gl s k))), (0, .ref h), (1, .int (nI s)), (2, .int (nI v))]) dX16_isAsOne_2_75 (by decide) rfl ?_
          refine g_aload_n hX (pc := 77) dX16_isAsOne_2_77 2 rfl ?_
          refine g_get hX (pc := 78) fcX16 1 rfl 1 (by decide) q696 rfl (v := .ref tr) rfl dX16_isAsOne_2_78 ?_
          refine g_iload hX (pc := 81) dX16_isAsOne_2_81 0 rfl ?_
          refine g_bipush hX (pc := 83) (v := 64) dX16_isAsOne_2_83 (by decide) ?_
          refine g_idiv hX (pc := 85) dX16_isAsOne_2_85 (by decide) ?_
          refine g_eqi (nI (hAt s v / 64)) (by rw [show (64 : Int32) = nI 64 from rfl, pk_div (by omega) (by omega) (by omega)]) ?_
          refine g_lald hX (pc := 86) (sp_mem (i := 2) rfl) (v := f (hAt s v / 64)) (vp_in_nI hat64 (by omega)) (by rw [nI_clamp (by omega)]) dX16_isAsOne_2_86 ?_
          refine g_iload hX (pc := 87) dX16_isAsOne_2_87 0 rfl ?_
          refine g_bipush hX (pc := 89) (v := 64) dX16_isAsOne_2_89 (by decide) ?_
          refine g_irem hX (pc := 91) dX16_isAsOne_2_91 (by decide) ?_
          refine g_eqi (nI (hAt s v % 64)) (by rw [show (64 : Int32) = nI 64 from rfl, pk_rem (by omega) (by omega) (by omega)]) ?_
          refine g_lshr hX (pc := 92) (v := (f (hAt s v / 64)) >>> (Int32.toInt64 (nI (hAt s v % 64)) &&& 63)) dX16_isAsOne_2_92 rfl ?_
          refine g_lconst hX (pc := 93) (v := 1) dX16_isAsOne_2_93 (by decide) ?_
          refine g_land hX (pc := 94) dX16_isAsOne_2_94 ?_
          refine g_lconst hX (pc := 95) (v := 1) dX16_isAsOne_2_95 (by decide) ?_
          refine g_lcmp hX (pc := 96) dX16_isAsOne_2_96 ?_
          refine g_if_ne hX (pc := 97) (tgt := 102) dX16_isAsOne_2_97 rfl (fun c12 => ?_) (fun c12 => ?_)
          · refine g_aload_n hX (pc := 102) dX16_isAsOne_2_102 2 rfl ?_
            refine g_get hX (pc := 103) fcX16 1 rfl 1 (by decide) q696 rfl (v := .ref tr) rfl dX16_isAsOne_2_103 ?_
            refine g_iload hX (pc := 106) dX16_isAsOne_2_106 0 rfl ?_
            refine g_bipush hX (pc := 108) (v := 64) dX16_isAsOne_2_108 (by decide) ?_
            refine g_idiv hX (pc := 110) dX16_isAsOne_2_110 (by decide) ?_
            refine g_eqi (nI (hAt s v / 64)) (by rw [show (64 : Int32) = nI 64 from rfl, pk_div (by omega) (by omega) (by omega)]) ?_
            refine g_dup2_11 hX (pc := 111) dX16_isAsOne_2_111 rfl rfl ?_
            refine g_lald hX (pc := 112) (sp_mem (i := 2) rfl) (v := f (hAt s v / 64)) (vp_in_nI hat64 (by omega)) (by rw [nI_clamp (by omega)]) dX16_isAsOne_2_112 ?_
            refine g_lconst hX (pc := 113) (v := 1) dX16_isAsOne_2_113 (by decide) ?_
            refine g_iload hX (pc := 114) dX16_isAsOne_2_114 0 rfl ?_
            refine g_bipush hX (pc := 116) (v := 64) dX16_isAsOne_2_116 (by decide) ?_
            refine g_irem hX (pc := 118) dX16_isAsOne_2_118 (by decide) ?_
            refine g_eqi (nI (hAt s v % 64)) (by rw [show (64 : Int32) = nI 64 from rfl, pk_rem (by omega) (by omega) (by omega)]) ?_
            refine g_lshl hX (pc := 119) (v := 1 <<< (Int32.toInt64 (nI (hAt s v % 64)) &&& 63)) dX16_isAsOne_2_119 rfl ?_
            refine g_lor hX (pc := 120) dX16_isAsOne_2_120 ?_
            refine g_last hX (pc := 121) (f1 := (vp_updL f (hAt s v / 64) (f (hAt s v / 64) ||| 1 <<< (Int32.toInt64 (nI (hAt s v % 64)) &&& 63)))) (cs1 := [wh, [(h, ob 14 [.ref ha, .ref tr])], [(tr, lA (aC E 1) 400 (vp_updL f (hAt s v / 64) (f (hAt s v / 64) ||| 1 <<< (Int32.toInt64 (nI (hAt s v % 64)) &&& 63))))], wq]) 2 rfl (vp_in_nI hat64 (by omega)) (by rw [nI_clamp (by omega)]) rfl dX16_isAsOne_2_121 ?_
            obtain ⟨hJ0, hS0⟩ := TJ.mark hT hv
            generalize (vp_updL f (hAt s v / 64) (f (hAt s v / 64) ||| 1 <<< (Int32.toInt64 (nI (hAt s v % 64)) &&& 63))) = f2 at hJ0 hS0 ⊢
            refine g_iconst hX (pc := 122) (v := 0) dX16_isAsOne_2_122 (by decide) ?_
            refine g_eqi (nI 0) (nI_0.symm) ?_
            refine g_istore hX (pc := 123) (lv1 := [(5, .int (nI 0)), (4, .int (nI (hAt s v))), (3, .int (bI (dnUp gl s k))), (0, .ref h), (1, .int (nI s)), (2, .int (nI v))]) dX16_isAsOne_2_123 (by decide) rfl ?_
            have lp13 : ∀ (F2 : Nat) (i : Nat) (g : Nat → Int64), List.length gl - i < F2 → (i ≤ List.length gl) → (TJ gl g s v) → (TS f g s) → (anyUp gl s v i = false) → G E l X [[(h, ob 14 [.ref ha, .ref tr])], [(tr, lA (aC E 1) 400 g)], wh, wq] 0 0 125 [(5, .int (nI i)), (0, .ref h), (1, .int (nI s)), (2, .int (nI v))] [] := by
              intro F2
              induction F2 with
              | zero =>
                intro i g hF hi hJ hS hany
                exact absurd hF (Nat.not_lt_zero _)
              | succ F2 ih2 =>
                intro i g hF hi hJ hS hany
                refine g_iload hX (pc := 125) dX16_isAsOne_2_125 0 rfl ?_
                refine g_aload_n hX (pc := 127) dX16_isAsOne_2_127 1 rfl ?_
                refine g_get hX (pc := 128) fcX16 0 rfl 0 (by decide) q695 rfl (v := .ref ha) rfl dX16_isAsOne_2_128 ?_
                refine g_callF hX (pc := 131) kfJ2_size (mt_AL_size E l ha as1 wh hA2) q268 fcJ2 (sp_in 2 rfl hm9) [2] rfl rfl rfl (Nat.le_of_ble_eq_true rfl) (Nat.le_of_ble_eq_true rfl) (Nat.le_of_ble_eq_true rfl) (by omega) (by omega) dX16_isAsOne_2_131 (fun v w1 hp => ?_)
                obtain ⟨rfl, rfl⟩ := hp
                refine g_nrm (cs1 := [wh, [(h, ob 14 [.ref ha, .ref tr])], [(tr, lA (aC E 1) 400 g)], wq]) (st1 := [.int (nI (List.length as1)), .int (nI i)]) rfl rfl ?_
                refine g_eqi (nI (List.length gl)) (by rw [hal3]) ?_
                refine g_icmp_ge hX (pc := 136) (tgt := 235) dX16_isAsOne_2_136 rfl (fun c14 => ?_) (fun c14 => ?_)
                · have d2 : i = List.length gl := by
                    have := (nI_leI (by omega) (by omega)).mp c14
                    omega
                  have hany2 : anyUp gl s v (List.length gl) = false := by rw [← d2]; exact hany
                  refine g_iconst hX (pc := 235) (v := 0) dX16_isAsOne_2_235 (by decide) ?_
                  refine g_pk [1, 1, 0, 0] rfl ?_
                  refine g_cs (cs1 := [[(h, ob 14 [.ref ha, .ref tr])], [(tr, lA (aC E 1) 400 g)], wh, wq]) rfl ?_
                  refine g_zret hX (pc := 236) hR rfl ?_ (by omega) (by omega) dX16_isAsOne_2_236
                  have hL := LIN_n hl.1 (v := v) hdn hany2
                  rw [hL]
                  exact ⟨_, hS, fun _ => hJ.done hL, rfl, rfl⟩
                · have d2 : i < List.length gl := by
                    have := mt (nI_leI (by omega) (by omega)).mpr c14
                    omega
                  obtain ⟨r15, hgr15⟩ := get_ex (l := gl) (i := i) (d2)
                  obtain ⟨as16, y17, hA18, hl19, hk20, hm21⟩ := HL.at hw hgr15
                  refine g_aload_n hX (pc := 139) dX16_isAsOne_2_139 1 rfl ?_
                  refine g_get hX (pc := 140) fcX16 1 rfl 0 (by decide) q695 rfl (v := .ref ha) rfl dX16_isAsOne_2_140 ?_
                  refine g_iload hX (pc := 143) dX16_isAsOne_2_143 0 rfl ?_
                  refine g_callF hX (pc := 145) kfJ2_get (mt_AL_get E l ha as16 wh i y17 hA18 (hk20)) q270 fcJ2 (sp_in 0 rfl hm9) [0] rfl rfl rfl (Nat.le_of_ble_eq_true rfl) (Nat.le_of_ble_eq_true rfl) (Nat.le_of_ble_eq_true rfl) (by omega) (by omega) dX16_isAsOne_2_145 (fun v w1 hp => ?_)
                  obtain ⟨rfl, rfl⟩ := hp
                  refine g_nrm (cs1 := [wh, [(h, ob 14 [.ref ha, .ref tr])], [(tr, lA (aC E 1) 400 g)], wq]) (st1 := [.ref y17]) rfl rfl ?_
                  refine g_cast hX (pc := 150) fcX12 (sp_in 3 rfl hm21) q271 dX16_isAsOne_2_150 ?_
                  refine g_astore hX (pc := 153) (lv1 := [(6, .ref y17), (5, .int (nI i)), (0, .ref h), (1, .int (nI s)), (2, .int (nI v))]) dX16_isAsOne_2_153 (by decide) rfl ?_
                  refine g_iload_n hX (pc := 155) dX16_isAsOne_2_155 3 rfl ?_
                  refine g_iload hX (pc := 156) dX16_isAsOne_2_156 1 rfl ?_
                  refine g_ishr hX (pc := 158) dX16_isAsOne_2_158 ?_
                  refine g_iconst hX (pc := 159) (v := 1) dX16_isAsOne_2_159 (by decide) ?_
                  refine g_iand hX (pc := 160) dX16_isAsOne_2_160 ?_
                  refine g_eqi (bI (Nat.testBit s i)) (sb_get s hs i (by omega)) ?_
                  refine g_if_ne hX (pc := 161) (tgt := 200) dX16_isAsOne_2_161 rfl (fun c22_ => ?_) (fun c22_ => ?_)
                  · have c22 := mt bI_0.mpr c22_
                    refine g_iconst hX (pc := 200) (v := 0) dX16_isAsOne_2_200 (by decide) ?_
                    refine g_istore hX (pc := 201) (lv1 := [(7, .int 0), (6, .ref y17), (5, .int (nI i)), (0, .ref h), (1, .int (nI s)), (2, .int (nI v))]) dX16_isAsOne_2_201 (by decide) rfl ?_
                    refine g_iload hX (pc := 203) dX16_isAsOne_2_203 0 rfl ?_
                    refine g_if_eq hX (pc := 205) (tgt := 229) dX16_isAsOne_2_205 rfl (fun c23 => ?_) (fun c23 => ?_)
                    · refine g_iinc hX (pc := 229) (v := nI (i + 1)) (lv1 := [(5, .int (nI (i + 1))), (7, .int 0), (6, .ref y17), (0, .ref h), (1, .int (nI s)), (2, .int (nI v))]) dX16_isAsOne_2_229 2 rfl (nI_1 _) (by decide) rfl ?_
                      refine g_goto hX (pc := 232) (tgt := 125) dX16_isAsOne_2_232 rfl ?_
                      refine g_pk [1, 1, 0, 0] rfl ?_
                      refine g_cs (cs1 := [[(h, ob 14 [.ref ha, .ref tr])], [(tr, lA (aC E 1) 400 g)], wh, wq]) rfl ?_
                      refine g_lv (lv1 := [(5, .int (nI (i + 1))), (0, .ref h), (1, .int (nI s)), (2, .int (nI v))]) [0, 3, 4, 5] rfl ?_
                      refine g_widen (kc1 := 0) (ks1 := 0) (by omega) (by omega) ?_
                      exact ih2 (i + 1) g (by omega) (by omega) (hJ) (hS) (any_n hgr15 hany (Or.inl (by simpa using c22)))
                    · exact absurd c23 (by decide)
                  · have c22 := bI_0.mp c22_
                    have hb : Nat.testBit s i = false := c22
                    refine g_aload_n hX (pc := 164) dX16_isAsOne_2_164 2 rfl ?_
                    refine g_iload_n hX (pc := 165) dX16_isAsOne_2_165 3 rfl ?_
                    refine g_aload hX (pc := 166) dX16_isAsOne_2_166 0 rfl ?_
                    refine g_callV hX (pc := 168) kX16_isNext (mt_History_isNext E l h ha tr gl wh wq s y17 r15 hw (hm21) (hl.1) (hs)) q714 fcX16 (sp_mem (i := 1) rfl) [1, 0, 1] rfl rfl rfl (Nat.le_of_ble_eq_true rfl) (Nat.le_of_ble_eq_true rfl) (Nat.le_of_ble_eq_true rfl) (by omega) (by omega) dX16_isAsOne_2_168 (fun v w1 hp => ?_)
                    obtain ⟨rfl, rfl⟩ := hp
                    refine g_nrm (cs1 := [[(h, ob 14 [.ref ha, .ref tr])], wh, wq, [(tr, lA (aC E 1) 400 g)]]) (st1 := [.int (bI (nxUp gl s r15 (List.length gl)))]) rfl rfl ?_
                    refine g_if_eq hX (pc := 171) (tgt := 200) dX16_isAsOne_2_171 rfl (fun c24_ => ?_) (fun c24_ => ?_)
                    · have c24 := bI_0.mp c24_
                      refine g_iconst hX (pc := 200) (v := 0) dX16_isAsOne_2_200 (by decide) ?_
                      refine g_istore hX (pc := 201) (lv1 := [(7, .int 0), (6, .ref y17), (5, .int (nI i)), (0, .ref h), (1, .int (nI s)), (2, .int (nI v))]) dX16_isAsOne_2_201 (by decide) rfl ?_
                      refine g_iload hX (pc := 203) dX16_isAsOne_2_203 0 rfl ?_
                      refine g_if_eq hX (pc := 205) (tgt := 229) dX16_isAsOne_2_205 rfl (fun c25 => ?_) (fun c25 => ?_)
                      · refine g_iinc hX (pc := 229) (v := nI (i + 1)) (lv1 := [(5, .int (nI (i + 1))), (7, .int 0), (6, .ref y17), (0, .ref h), (1, .int (nI s)), (2, .int (nI v))]) dX16_isAsOne_2_229 2 rfl (nI_1 _) (by decide) rfl ?_
                        refine g_goto hX (pc := 232) (tgt := 125) dX16_isAsOne_2_232 rfl ?_
                        refine g_pk [0, 2, 0, 0] rfl ?_
                        refine g_cs (cs1 := [[(h, ob 14 [.ref ha, .ref tr])], [(tr, lA (aC E 1) 400 g)], wh, wq]) rfl ?_
                        refine g_lv (lv1 := [(5, .int (nI (i + 1))), (0, .ref h), (1, .int (nI s)), (2, .int (nI v))]) [0, 3, 4, 5] rfl ?_
                        refine g_widen (kc1 := 0) (ks1 := 0) (by omega) (by omega) ?_
                        exact ih2 (i + 1) g (by omega) (by omega) (hJ) (hS) (any_n hgr15 hany (Or.inr (Or.inl (can_n1 c24))))
                      · exact absurd c25 (by decide)
                    · have c24 := mt bI_0.mpr c24_
                      refine g_aload hX (pc := 174) dX16_isAsOne_2_174 0 rfl ?_
                      refine g_callV hX (pc := 176) kX12_isAnswered (mt_Request_isAnsweredM E l y17 r15 wq (hm21)) q710 fcX12 (sp_in 2 rfl hm21) [2] rfl rfl rfl (Nat.le_of_ble_eq_true rfl) (Nat.le_of_ble_eq_true rfl) (Nat.le_of_ble_eq_true rfl) (by omega) (by omega) dX16_isAsOne_2_176 (fun v w1 hp => ?_)
                      obtain ⟨rfl, rfl⟩ := hp
                      refine g_nrm (cs1 := [wq, [(h, ob 14 [.ref ha, .ref tr])], wh, [(tr, lA (aC E 1) 400 g)]]) (st1 := [.int (if rAns r15 = (-1) then 0 else 1)]) rfl rfl ?_
                      refine g_if_eq hX (pc := 179) (tgt := 196) dX16_isAsOne_2_179 rfl (fun c26_ => ?_) (fun c26_ => ?_)
                      · have c26 := z01.mp c26_
                        refine g_iconst hX (pc := 196) (v := 1) dX16_isAsOne_2_196 (by decide) ?_
                        refine g_goto hX (pc := 197) (tgt := 201) dX16_isAsOne_2_197 rfl ?_
                        refine g_istore hX (pc := 201) (lv1 := [(7, .int 1), (6, .ref y17), (5, .int (nI i)), (0, .ref h), (1, .int (nI s)), (2, .int (nI v))]) dX16_isAsOne_2_201 (by decide) rfl ?_
                        refine g_iload hX (pc := 203) dX16_isAsOne_2_203 0 rfl ?_
                        refine g_if_eq hX (pc := 205) (tgt := 229) dX16_isAsOne_2_205 rfl (fun c27 => ?_) (fun c27 => ?_)
                        · exact absurd c27 (by decide)
                        · refine g_aload_n hX (pc := 208) dX16_isAsOne_2_208 3 rfl ?_
                          refine g_iload_n hX (pc := 209) dX16_isAsOne_2_209 4 rfl ?_
                          refine g_iconst hX (pc := 210) (v := 1) dX16_isAsOne_2_210 (by decide) ?_
                          refine g_iload hX (pc := 211) dX16_isAsOne_2_211 2 rfl ?_
                          refine g_ishl hX (pc := 213) dX16_isAsOne_2_213 ?_
                          refine g_ior hX (pc := 214) dX16_isAsOne_2_214 ?_
                          refine g_eqi (nI (s ||| 1 <<< i)) (sb_or s hs i (by omega)) ?_
                          refine g_aload hX (pc := 215) dX16_isAsOne_2_215 1 rfl ?_
                          refine g_iload_n hX (pc := 217) dX16_isAsOne_2_217 5 rfl ?_
                          refine g_callV hX (pc := 218) kX12_behind (mt_Request_behindM E l y17 r15 wq (nI v) (hm21) ((hl.2 r15 (List.mem_of_getElem? hgr15)).1)) q722 fcX12 (sp_in 0 rfl hm21) [0] rfl rfl rfl (Nat.le_of_ble_eq_true rfl) (Nat.le_of_ble_eq_true rfl) (Nat.le_of_ble_eq_true rfl) (by omega) (by omega) dX16_isAsOne_2_218 (fun v w1 hp => ?_)
                          obtain ⟨rfl, rfl⟩ := hp
                          refine g_nrm (cs1 := [wq, [(h, ob 14 [.ref ha, .ref tr])], wh, [(tr, lA (aC E 1) 400 g)]]) (st1 := [.int (rqBeh (rK r15) (rA r15) (rB r15) (nI v)), .int (nI (s ||| 1 <<< i)), .ref h]) rfl rfl ?_
                          refine g_eqi (nI (hBeh r15 v)) ((beh_ok (hl.2 r15 (List.mem_of_getElem? hgr15)).2 hv).1) ?_
                          refine g_callV hX (pc := 221) kX16_isAsOne_2 (mt_History_isAsOne_3 E l h ha tr g gl wh wq (s ||| 1 <<< i) (hBeh r15 v) hw (hl) (sb_lt s hs i (by omega)) ((beh_ok (hl.2 r15 (List.mem_of_getElem? hgr15)).2 hv).2) (uns_call d2 hb hd) (TJ.pre hJ (sb_gt hb))) q706 fcX16 (sp_mem (i := 1) rfl) [1, 2, 1, 0] rfl rfl rfl (Nat.le_of_ble_eq_true rfl) (Nat.le_of_ble_eq_true rfl) (Nat.le_of_ble_eq_true rfl) (by omega) (by omega) dX16_isAsOne_2_221 (fun v w1 hp => ?_)
                          obtain ⟨f128, h29, h30, rfl, rfl⟩ := hp
                          refine g_nrm (cs1 := [[(h, ob 14 [.ref ha, .ref tr])], [(tr, lA (aC E 1) 400 f128)], wh, wq]) (st1 := [.int (bI (LIN gl (s ||| 1 <<< i) (hBeh r15 v)))]) rfl rfl ?_
                          refine g_if_eq hX (pc := 224) (tgt := 229) dX16_isAsOne_2_224 rfl (fun c31_ => ?_) (fun c31_ => ?_)
                          · have c31 := bI_0.mp c31_
                            refine g_iinc hX (pc := 229) (v := nI (i + 1)) (lv1 := [(5, .int (nI (i + 1))), (7, .int 1), (6, .ref y17), (0, .ref h), (1, .int (nI s)), (2, .int (nI v))]) dX16_isAsOne_2_229 2 rfl (nI_1 _) (by decide) rfl ?_
                            refine g_goto hX (pc := 232) (tgt := 125) dX16_isAsOne_2_232 rfl ?_
                            refine g_lv (lv1 := [(5, .int (nI (i + 1))), (0, .ref h), (1, .int (nI s)), (2, .int (nI v))]) [0, 3, 4, 5] rfl ?_
                            refine g_widen (kc1 := 0) (ks1 := 0) (by omega) (by omega) ?_
                            exact ih2 (i + 1) f128 (by omega) (by omega) (TJ.call hJ (sb_gt hb) h29 (h30 c31)) (TS.tr hS (Nat.le_of_lt (sb_gt hb)) h29) (any_n hgr15 hany (Or.inr (Or.inr c31)))
                          · have c31 := mt bI_0.mpr c31_
                            refine g_iconst hX (pc := 227) (v := 1) dX16_isAsOne_2_227 (by decide) ?_
                            refine g_zret hX (pc := 228) hR rfl ?_ (by omega) (by omega) dX16_isAsOne_2_228
                            have hL := LIN_y hl.1 d2 hgr15 hb (can_y (by simpa using c24) (Or.inl c26)) (by simpa using c31)
                            rw [hL]
                            exact ⟨_, TS.tr hS (Nat.le_of_lt (sb_gt hb)) h29, fun z => absurd z (by decide), rfl, rfl⟩
                      · have c26 := z01n.mp c26_
                        refine g_aload hX (pc := 182) dX16_isAsOne_2_182 0 rfl ?_
                        refine g_iload_n hX (pc := 184) dX16_isAsOne_2_184 4 rfl ?_
                        refine g_callV hX (pc := 185) kX12_told (mt_Request_toldM E l y17 r15 wq (nI v) (hm21) ((hl.2 r15 (List.mem_of_getElem? hgr15)).1)) q718 fcX12 (sp_in 0 rfl hm21) [0] rfl rfl rfl (Nat.le_of_ble_eq_true rfl) (Nat.le_of_ble_eq_true rfl) (Nat.le_of_ble_eq_true rfl) (by omega) (by omega) dX16_isAsOne_2_185 (fun v w1 hp => ?_)
                        obtain ⟨rfl, rfl⟩ := hp
                        refine g_nrm (cs1 := [wq, [(h, ob 14 [.ref ha, .ref tr])], wh, [(tr, lA (aC E 1) 400 g)]]) (st1 := [.int (rqTold (rK r15) (rA r15) (nI v))]) rfl rfl ?_
                        refine g_aload hX (pc := 188) dX16_isAsOne_2_188 0 rfl ?_
                        refine g_getNm hX (pc := 190) fcX12 (sp_in 0 rfl hm21) 5 (by decide) q1005 rfl (v := .int (rRes r15)) rfl dX16_isAsOne_2_190 ?_
                        refine g_icmp_ne hX (pc := 193) (tgt := 200) dX16_isAsOne_2_193 rfl (fun c32 => ?_) (fun c32 => ?_)
                        · refine g_iconst hX (pc := 200) (v := 0) dX16_isAsOne_2_200 (by decide) ?_
                          refine g_istore hX (pc := 201) (lv1 := [(7, .int 0), (6, .ref y17), (5, .int (nI i)), (0, .ref h), (1, .int (nI s)), (2, .int (nI v))]) dX16_isAsOne_2_201 (by decide) rfl ?_
                          refine g_iload hX (pc := 203) dX16_isAsOne_2_203 0 rfl ?_
                          refine g_if_eq hX (pc := 205) (tgt := 229) dX16_isAsOne_2_205 rfl (fun c33 => ?_) (fun c33 => ?_)
                          · refine g_iinc hX (pc := 229) (v := nI (i + 1)) (lv1 := [(5, .int (nI (i + 1))), (7, .int 0), (6, .ref y17), (0, .ref h), (1, .int (nI s)), (2, .int (nI v))]) dX16_isAsOne_2_229 2 rfl (nI_1 _) (by decide) rfl ?_
                            refine g_goto hX (pc := 232) (tgt := 125) dX16_isAsOne_2_232 rfl ?_
                            refine g_pk [1, 2, 1, 0] rfl ?_
                            refine g_cs (cs1 := [[(h, ob 14 [.ref ha, .ref tr])], [(tr, lA (aC E 1) 400 g)], wh, wq]) rfl ?_
                            refine g_lv (lv1 := [(5, .int (nI (i + 1))), (0, .ref h), (1, .int (nI s)), (2, .int (nI v))]) [0, 3, 4, 5] rfl ?_
                            refine g_widen (kc1 := 0) (ks1 := 0) (by omega) (by omega) ?_
                            exact ih2 (i + 1) g (by omega) (by omega) (hJ) (hS) (any_n hgr15 hany (Or.inr (Or.inl (can_n2 c26 c32))))
                          · exact absurd c33 (by decide)
                        · refine g_iconst hX (pc := 196) (v := 1) dX16_isAsOne_2_196 (by decide) ?_
                          refine g_goto hX (pc := 197) (tgt := 201) dX16_isAsOne_2_197 rfl ?_
                          refine g_istore hX (pc := 201) (lv1 := [(7, .int 1), (6, .ref y17), (5, .int (nI i)), (0, .ref h), (1, .int (nI s)), (2, .int (nI v))]) dX16_isAsOne_2_201 (by decide) rfl ?_
                          refine g_iload hX (pc := 203) dX16_isAsOne_2_203 0 rfl ?_
                          refine g_if_eq hX (pc := 205) (tgt := 229) dX16_isAsOne_2_205 rfl (fun c34 => ?_) (fun c34 => ?_)
                          · exact absurd c34 (by decide)
                          · refine g_aload_n hX (pc := 208) dX16_isAsOne_2_208 3 rfl ?_
                            refine g_iload_n hX (pc := 209) dX16_isAsOne_2_209 4 rfl ?_
                            refine g_iconst hX (pc := 210) (v := 1) dX16_isAsOne_2_210 (by decide) ?_
                            refine g_iload hX (pc := 211) dX16_isAsOne_2_211 2 rfl ?_
                            refine g_ishl hX (pc := 213) dX16_isAsOne_2_213 ?_
                            refine g_ior hX (pc := 214) dX16_isAsOne_2_214 ?_
                            refine g_eqi (nI (s ||| 1 <<< i)) (sb_or s hs i (by omega)) ?_
                            refine g_aload hX (pc := 215) dX16_isAsOne_2_215 1 rfl ?_
                            refine g_iload_n hX (pc := 217) dX16_isAsOne_2_217 5 rfl ?_
                            refine g_callV hX (pc := 218) kX12_behind (mt_Request_behindM E l y17 r15 wq (nI v) (hm21) ((hl.2 r15 (List.mem_of_getElem? hgr15)).1)) q722 fcX12 (sp_in 0 rfl hm21) [0] rfl rfl rfl (Nat.le_of_ble_eq_true rfl) (Nat.le_of_ble_eq_true rfl) (Nat.le_of_ble_eq_true rfl) (by omega) (by omega) dX16_isAsOne_2_218 (fun v w1 hp => ?_)
                            obtain ⟨rfl, rfl⟩ := hp
                            refine g_nrm (cs1 := [wq, [(h, ob 14 [.ref ha, .ref tr])], wh, [(tr, lA (aC E 1) 400 g)]]) (st1 := [.int (rqBeh (rK r15) (rA r15) (rB r15) (nI v)), .int (nI (s ||| 1 <<< i)), .ref h]) rfl rfl ?_
                            refine g_eqi (nI (hBeh r15 v)) ((beh_ok (hl.2 r15 (List.mem_of_getElem? hgr15)).2 hv).1) ?_
                            refine g_callV hX (pc := 221) kX16_isAsOne_2 (mt_History_isAsOne_3 E l h ha tr g gl wh wq (s ||| 1 <<< i) (hBeh r15 v) hw (hl) (sb_lt s hs i (by omega)) ((beh_ok (hl.2 r15 (List.mem_of_getElem? hgr15)).2 hv).2) (uns_call d2 hb hd) (TJ.pre hJ (sb_gt hb))) q706 fcX16 (sp_mem (i := 1) rfl) [1, 2, 1, 0] rfl rfl rfl (Nat.le_of_ble_eq_true rfl) (Nat.le_of_ble_eq_true rfl) (Nat.le_of_ble_eq_true rfl) (by omega) (by omega) dX16_isAsOne_2_221 (fun v w1 hp => ?_)
                            obtain ⟨f135, h36, h37, rfl, rfl⟩ := hp
                            refine g_nrm (cs1 := [[(h, ob 14 [.ref ha, .ref tr])], [(tr, lA (aC E 1) 400 f135)], wh, wq]) (st1 := [.int (bI (LIN gl (s ||| 1 <<< i) (hBeh r15 v)))]) rfl rfl ?_
                            refine g_if_eq hX (pc := 224) (tgt := 229) dX16_isAsOne_2_224 rfl (fun c38_ => ?_) (fun c38_ => ?_)
                            · have c38 := bI_0.mp c38_
                              refine g_iinc hX (pc := 229) (v := nI (i + 1)) (lv1 := [(5, .int (nI (i + 1))), (7, .int 1), (6, .ref y17), (0, .ref h), (1, .int (nI s)), (2, .int (nI v))]) dX16_isAsOne_2_229 2 rfl (nI_1 _) (by decide) rfl ?_
                              refine g_goto hX (pc := 232) (tgt := 125) dX16_isAsOne_2_232 rfl ?_
                              refine g_lv (lv1 := [(5, .int (nI (i + 1))), (0, .ref h), (1, .int (nI s)), (2, .int (nI v))]) [0, 3, 4, 5] rfl ?_
                              refine g_widen (kc1 := 0) (ks1 := 0) (by omega) (by omega) ?_
                              exact ih2 (i + 1) f135 (by omega) (by omega) (TJ.call hJ (sb_gt hb) h36 (h37 c38)) (TS.tr hS (Nat.le_of_lt (sb_gt hb)) h36) (any_n hgr15 hany (Or.inr (Or.inr c38)))
                            · have c38 := mt bI_0.mpr c38_
                              refine g_iconst hX (pc := 227) (v := 1) dX16_isAsOne_2_227 (by decide) ?_
                              refine g_zret hX (pc := 228) hR rfl ?_ (by omega) (by omega) dX16_isAsOne_2_228
                              have hL := LIN_y hl.1 d2 hgr15 hb (can_y (by simpa using c24) (Or.inr c32)) (by simpa using c38)
                              rw [hL]
                              exact ⟨_, TS.tr hS (Nat.le_of_lt (sb_gt hb)) h36, fun z => absurd z (by decide), rfl, rfl⟩
            refine g_pk [1, 1, 0, 0] rfl ?_
            refine g_cs (cs1 := [[(h, ob 14 [.ref ha, .ref tr])], [(tr, lA (aC E 1) 400 f2)], wh, wq]) rfl ?_
            refine g_lv (lv1 := [(5, .int (nI 0)), (0, .ref h), (1, .int (nI s)), (2, .int (nI v))]) [0, 3, 4, 5] rfl ?_
            refine g_widen (kc1 := 0) (ks1 := 0) (by omega) (by omega) ?_
            exact lp13 ((List.length gl - 0) + 1) 0 f2 (Nat.lt_succ_self _) (Nat.zero_le _) (hJ0) (hS0) (rfl)
          · refine g_iconst hX (pc := 100) (v := 0) dX16_isAsOne_2_100 (by decide) ?_
            refine g_pk [1, 1, 0, 0] rfl ?_
            refine g_cs (cs1 := [[(h, ob 14 [.ref ha, .ref tr])], [(tr, lA (aC E 1) 400 f)], wh, wq]) rfl ?_
            refine g_zret hX (pc := 101) hR rfl ?_ (by omega) (by omega) dX16_isAsOne_2_101
            have hL := hT s v (Nat.le_refl _) hv (lcmp_1.mp c12)
            rw [hL]
            exact ⟨_, fun _ _ _ _ => rfl, fun _ => hT, rfl, rfl⟩
        · have c11 := mt bI_0.mpr c11_
          refine g_iconst hX (pc := 67) (v := 1) dX16_isAsOne_2_67 (by decide) ?_
          refine g_pk [1, 1, 0, 0] rfl ?_
          refine g_cs (cs1 := [[(h, ob 14 [.ref ha, .ref tr])], [(tr, lA (aC E 1) 400 f)], wh, wq]) rfl ?_
          refine g_zret hX (pc := 68) hR rfl ?_ (by omega) (by omega) dX16_isAsOne_2_68
          have hL := LIN_d hl.1 (v := v) (by rw [← d1]; simpa using c11)
          rw [hL]
          exact ⟨_, fun _ _ _ _ => rfl, fun z => absurd z (by decide), rfl, rfl⟩
      · have d1 : k < List.length gl := by
          have := mt (nI_leI (by omega) (by omega)).mpr c10
          omega
        obtain ⟨r39, hgr39⟩ := get_ex (l := gl) (i := k) (d1)
        obtain ⟨as40, y41, hA42, hl43, hk44, hm45⟩ := HL.at hw hgr39
        refine g_iload_n hX (pc := 19) dX16_isAsOne_2_19 1 rfl ?_
        refine g_iload_n hX (pc := 20) dX16_isAsOne_2_20 3 rfl ?_
        refine g_iload hX (pc := 21) dX16_isAsOne_2_21 0 rfl ?_
        refine g_ishr hX (pc := 23) dX16_isAsOne_2_23 ?_
        refine g_iconst hX (pc := 24) (v := 1) dX16_isAsOne_2_24 (by decide) ?_
        refine g_iand hX (pc := 25) dX16_isAsOne_2_25 ?_
        refine g_eqi (bI (Nat.testBit s k)) (sb_get s hs k (by omega)) ?_
        refine g_iconst hX (pc := 26) (v := 1) dX16_isAsOne_2_26 (by decide) ?_
        refine g_icmp_eq hX (pc := 27) (tgt := 50) dX16_isAsOne_2_27 rfl (fun c46 => ?_) (fun c46 => ?_)
        · refine g_iconst hX (pc := 50) (v := 1) dX16_isAsOne_2_50 (by decide) ?_
          refine g_goto hX (pc := 51) (tgt := 55) dX16_isAsOne_2_51 rfl ?_
          refine g_iand hX (pc := 55) dX16_isAsOne_2_55 ?_
          refine g_eqi (bI (dnUp gl s (k + 1))) (dn_1 (Or.inl (bI_1.mp c46))) ?_
          refine g_istore_n hX (pc := 56) (lv1 := [(3, .int (bI (dnUp gl s (k + 1)))), (4, .int (nI k)), (0, .ref h), (1, .int (nI s)), (2, .int (nI v))]) dX16_isAsOne_2_56 (by decide) rfl ?_
          refine g_iinc hX (pc := 57) (v := nI (k + 1)) (lv1 := [(4, .int (nI (k + 1))), (3, .int (bI (dnUp gl s (k + 1)))), (0, .ref h), (1, .int (nI s)), (2, .int (nI v))]) dX16_isAsOne_2_57 1 rfl (nI_1 _) (by decide) rfl ?_
          refine g_goto hX (pc := 60) (tgt := 5) dX16_isAsOne_2_60 rfl ?_
          refine g_pk [1, 1, 0, 0] rfl ?_
          refine g_cs (cs1 := [[(h, ob 14 [.ref ha, .ref tr])], [(tr, lA (aC E 1) 400 f)], wh, wq]) rfl ?_
          refine g_widen (kc1 := 0) (ks1 := 0) (by omega) (by omega) ?_
          exact ih1 (k + 1) (by omega) (by omega)
        · refine g_aload_n hX (pc := 30) dX16_isAsOne_2_30 2 rfl ?_
          refine g_get hX (pc := 31) fcX16 1 rfl 0 (by decide) q695 rfl (v := .ref ha) rfl dX16_isAsOne_2_31 ?_
          refine g_iload hX (pc := 34) dX16_isAsOne_2_34 0 rfl ?_
          refine g_callF hX (pc := 36) kfJ2_get (mt_AL_get E l ha as40 wh k y41 hA42 (hk44)) q270 fcJ2 (sp_in 0 rfl hm9) [0] rfl rfl rfl (Nat.le_of_ble_eq_true rfl) (Nat.le_of_ble_eq_true rfl) (Nat.le_of_ble_eq_true rfl) (by omega) (by omega) dX16_isAsOne_2_36 (fun v w1 hp => ?_)
          obtain ⟨rfl, rfl⟩ := hp
          refine g_nrm (cs1 := [wh, [(h, ob 14 [.ref ha, .ref tr])], [(tr, lA (aC E 1) 400 f)], wq]) (st1 := [.ref y41, .int (bI (dnUp gl s k))]) rfl rfl ?_
          refine g_cast hX (pc := 41) fcX12 (sp_in 3 rfl hm45) q271 dX16_isAsOne_2_41 ?_
          refine g_callV hX (pc := 44) kX12_isAnswered (mt_Request_isAnsweredM E l y41 r39 wq (hm45)) q710 fcX12 (sp_in 3 rfl hm45) [3] rfl rfl rfl (Nat.le_of_ble_eq_true rfl) (Nat.le_of_ble_eq_true rfl) (Nat.le_of_ble_eq_true rfl) (by omega) (by omega) dX16_isAsOne_2_44 (fun v w1 hp => ?_)
          obtain ⟨rfl, rfl⟩ := hp
          refine g_nrm (cs1 := [wq, wh, [(h, ob 14 [.ref ha, .ref tr])], [(tr, lA (aC E 1) 400 f)]]) (st1 := [.int (if rAns r39 = (-1) then 0 else 1), .int (bI (dnUp gl s k))]) rfl rfl ?_
          refine g_if_ne hX (pc := 47) (tgt := 54) dX16_isAsOne_2_47 rfl (fun c47_ => ?_) (fun c47_ => ?_)
          · have c47 := z01n.mp c47_
            refine g_iconst hX (pc := 54) (v := 0) dX16_isAsOne_2_54 (by decide) ?_
            refine g_iand hX (pc := 55) dX16_isAsOne_2_55 ?_
            refine g_eqi (bI (dnUp gl s (k + 1))) (dn_0 (fun z => c46 (bI_1.mpr z)) (by rw [hG_e hgr39]; exact c47)) ?_
            refine g_istore_n hX (pc := 56) (lv1 := [(3, .int (bI (dnUp gl s (k + 1)))), (4, .int (nI k)), (0, .ref h), (1, .int (nI s)), (2, .int (nI v))]) dX16_isAsOne_2_56 (by decide) rfl ?_
            refine g_iinc hX (pc := 57) (v := nI (k + 1)) (lv1 := [(4, .int (nI (k + 1))), (3, .int (bI (dnUp gl s (k + 1)))), (0, .ref h), (1, .int (nI s)), (2, .int (nI v))]) dX16_isAsOne_2_57 1 rfl (nI_1 _) (by decide) rfl ?_
            refine g_goto hX (pc := 60) (tgt := 5) dX16_isAsOne_2_60 rfl ?_
            refine g_pk [2, 2, 1, 0] rfl ?_
            refine g_cs (cs1 := [[(h, ob 14 [.ref ha, .ref tr])], [(tr, lA (aC E 1) 400 f)], wh, wq]) rfl ?_
            refine g_widen (kc1 := 0) (ks1 := 0) (by omega) (by omega) ?_
            exact ih1 (k + 1) (by omega) (by omega)
          · have c47 := z01.mp c47_
            refine g_iconst hX (pc := 50) (v := 1) dX16_isAsOne_2_50 (by decide) ?_
            refine g_goto hX (pc := 51) (tgt := 55) dX16_isAsOne_2_51 rfl ?_
            refine g_iand hX (pc := 55) dX16_isAsOne_2_55 ?_
            refine g_eqi (bI (dnUp gl s (k + 1))) (dn_1 (Or.inr (by rw [hG_e hgr39]; exact c47))) ?_
            refine g_istore_n hX (pc := 56) (lv1 := [(3, .int (bI (dnUp gl s (k + 1)))), (4, .int (nI k)), (0, .ref h), (1, .int (nI s)), (2, .int (nI v))]) dX16_isAsOne_2_56 (by decide) rfl ?_
            refine g_iinc hX (pc := 57) (v := nI (k + 1)) (lv1 := [(4, .int (nI (k + 1))), (3, .int (bI (dnUp gl s (k + 1)))), (0, .ref h), (1, .int (nI s)), (2, .int (nI v))]) dX16_isAsOne_2_57 1 rfl (nI_1 _) (by decide) rfl ?_
            refine g_goto hX (pc := 60) (tgt := 5) dX16_isAsOne_2_60 rfl ?_
            refine g_pk [2, 2, 1, 0] rfl ?_
            refine g_cs (cs1 := [[(h, ob 14 [.ref ha, .ref tr])], [(tr, lA (aC E 1) 400 f)], wh, wq]) rfl ?_
            refine g_widen (kc1 := 0) (ks1 := 0) (by omega) (by omega) ?_
            exact ih1 (k + 1) (by omega) (by omega)
  refine g_widen (kc1 := 0) (ks1 := 0) (by omega) (by omega) ?_
  exact lp7 ((List.length gl - 0) + 1) 0 (Nat.lt_succ_self _) (Nat.zero_le _)

set_option maxHeartbeats 4000000 in
theorem mt_History_isAsOne_5 (E : EE) (l : Launch) (h : Nat) (ha : Nat) (tr : Nat) (f : Nat → Int64) (gl : List PR) (wh : va_W) (wq : va_W) (s : Nat) (v : Nat) (hw : HL E ha gl wq wh) (hl : (hOKl gl)) (hs : (s < 256)) (hv : (v < 100)) (hd : (unsUp s (List.length gl) ≤ 5)) (hT : (TI gl f s)) : Mt E l yX16_isAsOne_2 cX16_isAsOne_2 8 (some .boolean) 10 0 0 225 [.ref h, .int (nI s), .int (nI v)] [[(h, ob 14 [.ref ha, .ref tr])], [(tr, lA (aC E 1) 400 f)], wh, wq] (fun (v_ : Option Value) (cs_ : List va_W) => ∃ (f1 : Nat → Int64), (TS f f1 s) ∧ (LIN gl s v = false → TI gl f1 s) ∧ v_ = some (.int (bI (LIN gl s v))) ∧ cs_ = [[(h, ob 14 [.ref ha, .ref tr])], [(tr, lA (aC E 1) 400 f1)], wh, wq]) := by
  have hl8 := hl.1
  have hat64 : hAt s v / 64 < 400 := by show (s * 100 + v) / 64 < 400; omega
  have hat31 : hAt s v < 2 ^ 31 := by show s * 100 + v < 2 ^ 31; omega
  refine Mt.of (by decide) (Nat.le_of_ble_eq_true rfl) (fun X hX hR hin => ?_)
  refine g_lv1 (lv1 := [(0, .ref h), (1, .int (nI s)), (2, .int (nI v))]) rfl ?_
  obtain ⟨as1, hA2, hal3, hok4, hins5, hera6⟩ := HL.al hw
  refine g_iconst hX (pc := 0) (v := 1) dX16_isAsOne_2_0 (by decide) ?_
  refine g_eqi (bI (dnUp gl s 0)) (rfl) ?_
  refine g_istore_n hX (pc := 1) (lv1 := [(3, .int (bI (dnUp gl s 0))), (0, .ref h), (1, .int (nI s)), (2, .int (nI v))]) dX16_isAsOne_2_1 (by decide) rfl ?_
  refine g_iconst hX (pc := 2) (v := 0) dX16_isAsOne_2_2 (by decide) ?_
  refine g_eqi (nI 0) (nI_0.symm) ?_
  refine g_istore hX (pc := 3) (lv1 := [(4, .int (nI 0)), (3, .int (bI (dnUp gl s 0))), (0, .ref h), (1, .int (nI s)), (2, .int (nI v))]) dX16_isAsOne_2_3 (by decide) rfl ?_
  have lp7 : ∀ (F1 : Nat) (k : Nat), List.length gl - k < F1 → (k ≤ List.length gl) → G E l X [[(h, ob 14 [.ref ha, .ref tr])], [(tr, lA (aC E 1) 400 f)], wh, wq] 0 0 5 [(4, .int (nI k)), (3, .int (bI (dnUp gl s k))), (0, .ref h), (1, .int (nI s)), (2, .int (nI v))] [] := by
    intro F1
    induction F1 with
    | zero =>
      intro k hF hk
      exact absurd hF (Nat.not_lt_zero _)
    | succ F1 ih1 =>
      intro k hF hk
      refine g_iload hX (pc := 5) dX16_isAsOne_2_5 0 rfl ?_
      refine g_aload_n hX (pc := 7) dX16_isAsOne_2_7 2 rfl ?_
      refine g_get hX (pc := 8) fcX16 0 rfl 0 (by decide) q695 rfl (v := .ref ha) rfl dX16_isAsOne_2_8 ?_
      obtain ⟨fs8, hm9⟩ := AL.head hA2
      refine g_callF hX (pc := 11) kfJ2_size (mt_AL_size E l ha as1 wh hA2) q268 fcJ2 (sp_in 2 rfl hm9) [2] rfl rfl rfl (Nat.le_of_ble_eq_true rfl) (Nat.le_of_ble_eq_true rfl) (Nat.le_of_ble_eq_true rfl) (by omega) (by omega) dX16_isAsOne_2_11 (fun v w1 hp => ?_)
      obtain ⟨rfl, rfl⟩ := hp
      refine g_nrm (cs1 := [wh, [(h, ob 14 [.ref ha, .ref tr])], [(tr, lA (aC E 1) 400 f)], wq]) (st1 := [.int (nI (List.length as1)), .int (nI k)]) rfl rfl ?_
      refine g_eqi (nI (List.length gl)) (by rw [hal3]) ?_
      refine g_icmp_ge hX (pc := 16) (tgt := 63) dX16_isAsOne_2_16 rfl (fun c10 => ?_) (fun c10 => ?_)
      · have d1 : k = List.length gl := by
          have := (nI_leI (by omega) (by omega)).mp c10
          omega
        refine g_iload_n hX (pc := 63) dX16_isAsOne_2_63 1 rfl ?_
        refine g_if_eq hX (pc := 64) (tgt := 69) dX16_isAsOne_2_64 rfl (fun c11_ => ?_) (fun c11_ => ?_)
        · have c11 := bI_0.mp c11_
          have hdn : dnUp gl s (List.length gl) = false := by rw [← d1]; exact c11
          refine g_iload_n hX (pc := 69) dX16_isAsOne_2_69 3 rfl ?_
          refine g_bipush hX (pc := 70) (v := 100) dX16_isAsOne_2_70 (by decide) ?_
          refine g_imul hX (pc := 72) dX16_isAsOne_2_72 ?_
          refine g_eqi (nI (s * 100)) (by rw [show (100 : Int32) = nI 100 from rfl, pk_mul]) ?_
          refine g_iload_n hX (pc := 73) dX16_isAsOne_2_73 4 rfl ?_
          refine g_iadd hX (pc := 74) dX16_isAsOne_2_74 ?_
          refine g_eqi (nI (hAt s v)) (nI_add _ _) ?_
          refine g_istore hX (pc := 75) (lv1 := [(4, .int (nI (hAt s v))), (3, .int (bI (dnUp gl s k))), (0, .ref h), (1, .int (nI s)), (2, .int (nI v))]) dX16_isAsOne_2_75 (by decide) rfl ?_
          refine g_aload_n hX (pc := 77) dX16_isAsOne_2_77 2 rfl ?_
          refine g_get hX (pc := 78) fcX16 1 rfl 1 (by decide) q696 rfl (v := .ref tr) rfl dX16_isAsOne_2_78 ?_
          refine g_iload hX (pc := 81) dX16_isAsOne_2_81 0 rfl ?_
          refine g_bipush hX (pc := 83) (v := 64) dX16_isAsOne_2_83 (by decide) ?_
          refine g_idiv hX (pc := 85) dX16_isAsOne_2_85 (by decide) ?_
          refine g_eqi (nI (hAt s v / 64)) (by rw [show (64 : Int32) = nI 64 from rfl, pk_div (by omega) (by omega) (by omega)]) ?_
          refine g_lald hX (pc := 86) (sp_mem (i := 2) rfl) (v := f (hAt s v / 64)) (vp_in_nI hat64 (by omega)) (by rw [nI_clamp (by omega)]) dX16_isAsOne_2_86 ?_
          refine g_iload hX (pc := 87) dX16_isAsOne_2_87 0 rfl ?_
          refine g_bipush hX (pc := 89) (v := 64) dX16_isAsOne_2_89 (by decide) ?_
          refine g_irem hX (pc := 91) dX16_isAsOne_2_91 (by decide) ?_
          refine g_eqi (nI (hAt s v % 64)) (by rw [show (64 : Int32) = nI 64 from rfl, pk_rem (by omega) (by omega) (by omega)]) ?_
          refine g_lshr hX (pc := 92) (v := (f (hAt s v / 64)) >>> (Int32.toInt64 (nI (hAt s v % 64)) &&& 63)) dX16_isAsOne_2_92 rfl ?_
          refine g_lconst hX (pc := 93) (v := 1) dX16_isAsOne_2_93 (by decide) ?_
          refine g_land hX (pc := 94) dX16_isAsOne_2_94 ?_
          refine g_lconst hX (pc := 95) (v := 1) dX16_isAsOne_2_95 (by decide) ?_
          refine g_lcmp hX (pc := 96) dX16_isAsOne_2_96 ?_
          refine g_if_ne hX (pc := 97) (tgt := 102) dX16_isAsOne_2_97 rfl (fun c12 => ?_) (fun c12 => ?_)
          · refine g_aload_n hX (pc := 102) dX16_isAsOne_2_102 2 rfl ?_
            refine g_get hX (pc := 103) fcX16 1 rfl 1 (by decide) q696 rfl (v := .ref tr) rfl dX16_isAsOne_2_103 ?_
            refine g_iload hX (pc := 106) dX16_isAsOne_2_106 0 rfl ?_
            refine g_bipush hX (pc := 108) (v := 64) dX16_isAsOne_2_108 (by decide) ?_
            refine g_idiv hX (pc := 110) dX16_isAsOne_2_110 (by decide) ?_
            refine g_eqi (nI (hAt s v / 64)) (by rw [show (64 : Int32) = nI 64 from rfl, pk_div (by omega) (by omega) (by omega)]) ?_
            refine g_dup2_11 hX (pc := 111) dX16_isAsOne_2_111 rfl rfl ?_
            refine g_lald hX (pc := 112) (sp_mem (i := 2) rfl) (v := f (hAt s v / 64)) (vp_in_nI hat64 (by omega)) (by rw [nI_clamp (by omega)]) dX16_isAsOne_2_112 ?_
            refine g_lconst hX (pc := 113) (v := 1) dX16_isAsOne_2_113 (by decide) ?_
            refine g_iload hX (pc := 114) dX16_isAsOne_2_114 0 rfl ?_
            refine g_bipush hX (pc := 116) (v := 64) dX16_isAsOne_2_116 (by decide) ?_
            refine g_irem hX (pc := 118) dX16_isAsOne_2_118 (by decide) ?_
            refine g_eqi (nI (hAt s v % 64)) (by rw [show (64 : Int32) = nI 64 from rfl, pk_rem (by omega) (by omega) (by omega)]) ?_
            refine g_lshl hX (pc := 119) (v := 1 <<< (Int32.toInt64 (nI (hAt s v % 64)) &&& 63)) dX16_isAsOne_2_119 rfl ?_
            refine g_lor hX (pc := 120) dX16_isAsOne_2_120 ?_
            refine g_last hX (pc := 121) (f1 := (vp_updL f (hAt s v / 64) (f (hAt s v / 64) ||| 1 <<< (Int32.toInt64 (nI (hAt s v % 64)) &&& 63)))) (cs1 := [wh, [(h, ob 14 [.ref ha, .ref tr])], [(tr, lA (aC E 1) 400 (vp_updL f (hAt s v / 64) (f (hAt s v / 64) ||| 1 <<< (Int32.toInt64 (nI (hAt s v % 64)) &&& 63))))], wq]) 2 rfl (vp_in_nI hat64 (by omega)) (by rw [nI_clamp (by omega)]) rfl dX16_isAsOne_2_121 ?_
            obtain ⟨hJ0, hS0⟩ := TJ.mark hT hv
            generalize (vp_updL f (hAt s v / 64) (f (hAt s v / 64) ||| 1 <<< (Int32.toInt64 (nI (hAt s v % 64)) &&& 63))) = f2 at hJ0 hS0 ⊢
            refine g_iconst hX (pc := 122) (v := 0) dX16_isAsOne_2_122 (by decide) ?_
            refine g_eqi (nI 0) (nI_0.symm) ?_
            refine g_istore hX (pc := 123) (lv1 := [(5, .int (nI 0)), (4, .int (nI (hAt s v))), (3, .int (bI (dnUp gl s k))), (0, .ref h), (1, .int (nI s)), (2, .int (nI v))]) dX16_isAsOne_2_123 (by decide) rfl ?_
            have lp13 : ∀ (F2 : Nat) (i : Nat) (g : Nat → Int64), List.length gl - i < F2 → (i ≤ List.length gl) → (TJ gl g s v) → (TS f g s) → (anyUp gl s v i = false) → G E l X [[(h, ob 14 [.ref ha, .ref tr])], [(tr, lA (aC E 1) 400 g)], wh, wq] 0 0 125 [(5, .int (nI i)), (0, .ref h), (1, .int (nI s)), (2, .int (nI v))] [] := by
              intro F2
              induction F2 with
              | zero =>
                intro i g hF hi hJ hS hany
                exact absurd hF (Nat.not_lt_zero _)
              | succ F2 ih2 =>
                intro i g hF hi hJ hS hany
                refine g_iload hX (pc := 125) dX16_isAsOne_2_125 0 rfl ?_
                refine g_aload_n hX (pc := 127) dX16_isAsOne_2_127 1 rfl ?_
                refine g_get hX (pc := 128) fcX16 0 rfl 0 (by decide) q695 rfl (v := .ref ha) rfl dX16_isAsOne_2_128 ?_
                refine g_callF hX (pc := 131) kfJ2_size (mt_AL_size E l ha as1 wh hA2) q268 fcJ2 (sp_in 2 rfl hm9) [2] rfl rfl rfl (Nat.le_of_ble_eq_true rfl) (Nat.le_of_ble_eq_true rfl) (Nat.le_of_ble_eq_true rfl) (by omega) (by omega) dX16_isAsOne_2_131 (fun v w1 hp => ?_)
                obtain ⟨rfl, rfl⟩ := hp
                refine g_nrm (cs1 := [wh, [(h, ob 14 [.ref ha, .ref tr])], [(tr, lA (aC E 1) 400 g)], wq]) (st1 := [.int (nI (List.length as1)), .int (nI i)]) rfl rfl ?_
                refine g_eqi (nI (List.length gl)) (by rw [hal3]) ?_
                refine g_icmp_ge hX (pc := 136) (tgt := 235) dX16_isAsOne_2_136 rfl (fun c14 => ?_) (fun c14 => ?_)
                · have d2 : i = List.length gl := by
                    have := (nI_leI (by omega) (by omega)).mp c14
                    omega
                  have hany2 : anyUp gl s v (List.length gl) = false := by rw [← d2]; exact hany
                  refine g_iconst hX (pc := 235) (v := 0) dX16_isAsOne_2_235 (by decide) ?_
                  refine g_pk [1, 1, 0, 0] rfl ?_
                  refine g_cs (cs1 := [[(h, ob 14 [.ref ha, .ref tr])], [(tr, lA (aC E 1) 400 g)], wh, wq]) rfl ?_
                  refine g_zret hX (pc := 236) hR rfl ?_ (by omega) (by omega) dX16_isAsOne_2_236
                  have hL := LIN_n hl.1 (v := v) hdn hany2
                  rw [hL]
                  exact ⟨_, hS, fun _ => hJ.done hL, rfl, rfl⟩
                · have d2 : i < List.length gl := by
                    have := mt (nI_leI (by omega) (by omega)).mpr c14
                    omega
                  obtain ⟨r15, hgr15⟩ := get_ex (l := gl) (i := i) (d2)
                  obtain ⟨as16, y17, hA18, hl19, hk20, hm21⟩ := HL.at hw hgr15
                  refine g_aload_n hX (pc := 139) dX16_isAsOne_2_139 1 rfl ?_
                  refine g_get hX (pc := 140) fcX16 1 rfl 0 (by decide) q695 rfl (v := .ref ha) rfl dX16_isAsOne_2_140 ?_
                  refine g_iload hX (pc := 143) dX16_isAsOne_2_143 0 rfl ?_
                  refine g_callF hX (pc := 145) kfJ2_get (mt_AL_get E l ha as16 wh i y17 hA18 (hk20)) q270 fcJ2 (sp_in 0 rfl hm9) [0] rfl rfl rfl (Nat.le_of_ble_eq_true rfl) (Nat.le_of_ble_eq_true rfl) (Nat.le_of_ble_eq_true rfl) (by omega) (by omega) dX16_isAsOne_2_145 (fun v w1 hp => ?_)
                  obtain ⟨rfl, rfl⟩ := hp
                  refine g_nrm (cs1 := [wh, [(h, ob 14 [.ref ha, .ref tr])], [(tr, lA (aC E 1) 400 g)], wq]) (st1 := [.ref y17]) rfl rfl ?_
                  refine g_cast hX (pc := 150) fcX12 (sp_in 3 rfl hm21) q271 dX16_isAsOne_2_150 ?_
                  refine g_astore hX (pc := 153) (lv1 := [(6, .ref y17), (5, .int (nI i)), (0, .ref h), (1, .int (nI s)), (2, .int (nI v))]) dX16_isAsOne_2_153 (by decide) rfl ?_
                  refine g_iload_n hX (pc := 155) dX16_isAsOne_2_155 3 rfl ?_
                  refine g_iload hX (pc := 156) dX16_isAsOne_2_156 1 rfl ?_
                  refine g_ishr hX (pc := 158) dX16_isAsOne_2_158 ?_
                  refine g_iconst hX (pc := 159) (v := 1) dX16_isAsOne_2_159 (by decide) ?_
                  refine g_iand hX (pc := 160) dX16_isAsOne_2_160 ?_
                  refine g_eqi (bI (Nat.testBit s i)) (sb_get s hs i (by omega)) ?_
                  refine g_if_ne hX (pc := 161) (tgt := 200) dX16_isAsOne_2_161 rfl (fun c22_ => ?_) (fun c22_ => ?_)
                  · have c22 := mt bI_0.mpr c22_
                    refine g_iconst hX (pc := 200) (v := 0) dX16_isAsOne_2_200 (by decide) ?_
                    refine g_istore hX (pc := 201) (lv1 := [(7, .int 0), (6, .ref y17), (5, .int (nI i)), (0, .ref h), (1, .int (nI s)), (2, .int (nI v))]) dX16_isAsOne_2_201 (by decide) rfl ?_
                    refine g_iload hX (pc := 203) dX16_isAsOne_2_203 0 rfl ?_
                    refine g_if_eq hX (pc := 205) (tgt := 229) dX16_isAsOne_2_205 rfl (fun c23 => ?_) (fun c23 => ?_)
                    · refine g_iinc hX (pc := 229) (v := nI (i + 1)) (lv1 := [(5, .int (nI (i + 1))), (7, .int 0), (6, .ref y17), (0, .ref h), (1, .int (nI s)), (2, .int (nI v))]) dX16_isAsOne_2_229 2 rfl (nI_1 _) (by decide) rfl ?_
                      refine g_goto hX (pc := 232) (tgt := 125) dX16_isAsOne_2_232 rfl ?_
                      refine g_pk [1, 1, 0, 0] rfl ?_
                      refine g_cs (cs1 := [[(h, ob 14 [.ref ha, .ref tr])], [(tr, lA (aC E 1) 400 g)], wh, wq]) rfl ?_
                      refine g_lv (lv1 := [(5, .int (nI (i + 1))), (0, .ref h), (1, .int (nI s)), (2, .int (nI v))]) [0, 3, 4, 5] rfl ?_
                      refine g_widen (kc1 := 0) (ks1 := 0) (by omega) (by omega) ?_
                      exact ih2 (i + 1) g (by omega) (by omega) (hJ) (hS) (any_n hgr15 hany (Or.inl (by simpa using c22)))
                    · exact absurd c23 (by decide)
                  · have c22 := bI_0.mp c22_
                    have hb : Nat.testBit s i = false := c22
                    refine g_aload_n hX (pc := 164) dX16_isAsOne_2_164 2 rfl ?_
                    refine g_iload_n hX (pc := 165) dX16_isAsOne_2_165 3 rfl ?_
                    refine g_aload hX (pc := 166) dX16_isAsOne_2_166 0 rfl ?_
                    refine g_callV hX (pc := 168) kX16_isNext (mt_History_isNext E l h ha tr gl wh wq s y17 r15 hw (hm21) (hl.1) (hs)) q714 fcX16 (sp_mem (i := 1) rfl) [1, 0, 1] rfl rfl rfl (Nat.le_of_ble_eq_true rfl) (Nat.le_of_ble_eq_true rfl) (Nat.le_of_ble_eq_true rfl) (by omega) (by omega) dX16_isAsOne_2_168 (fun v w1 hp => ?_)
                    obtain ⟨rfl, rfl⟩ := hp
                    refine g_nrm (cs1 := [[(h, ob 14 [.ref ha, .ref tr])], wh, wq, [(tr, lA (aC E 1) 400 g)]]) (st1 := [.int (bI (nxUp gl s r15 (List.length gl)))]) rfl rfl ?_
                    refine g_if_eq hX (pc := 171) (tgt := 200) dX16_isAsOne_2_171 rfl (fun c24_ => ?_) (fun c24_ => ?_)
                    · have c24 := bI_0.mp c24_
                      refine g_iconst hX (pc := 200) (v := 0) dX16_isAsOne_2_200 (by decide) ?_
                      refine g_istore hX (pc := 201) (lv1 := [(7, .int 0), (6, .ref y17), (5, .int (nI i)), (0, .ref h), (1, .int (nI s)), (2, .int (nI v))]) dX16_isAsOne_2_201 (by decide) rfl ?_
                      refine g_iload hX (pc := 203) dX16_isAsOne_2_203 0 rfl ?_
                      refine g_if_eq hX (pc := 205) (tgt := 229) dX16_isAsOne_2_205 rfl (fun c25 => ?_) (fun c25 => ?_)
                      · refine g_iinc hX (pc := 229) (v := nI (i + 1)) (lv1 := [(5, .int (nI (i + 1))), (7, .int 0), (6, .ref y17), (0, .ref h), (1, .int (nI s)), (2, .int (nI v))]) dX16_isAsOne_2_229 2 rfl (nI_1 _) (by decide) rfl ?_
                        refine g_goto hX (pc := 232) (tgt := 125) dX16_isAsOne_2_232 rfl ?_
                        refine g_pk [0, 2, 0, 0] rfl ?_
                        refine g_cs (cs1 := [[(h, ob 14 [.ref ha, .ref tr])], [(tr, lA (aC E 1) 400 g)], wh, wq]) rfl ?_
                        refine g_lv (lv1 := [(5, .int (nI (i + 1))), (0, .ref h), (1, .int (nI s)), (2, .int (nI v))]) [0, 3, 4, 5] rfl ?_
                        refine g_widen (kc1 := 0) (ks1 := 0) (by omega) (by omega) ?_
                        exact ih2 (i + 1) g (by omega) (by omega) (hJ) (hS) (any_n hgr15 hany (Or.inr (Or.inl (can_n1 c24))))
                      · exact absurd c25 (by decide)
                    · have c24 := mt bI_0.mpr c24_
                      refine g_aload hX (pc := 174) dX16_isAsOne_2_174 0 rfl ?_
                      refine g_callV hX (pc := 176) kX12_isAnswered (mt_Request_isAnsweredM E l y17 r15 wq (hm21)) q710 fcX12 (sp_in 2 rfl hm21) [2] rfl rfl rfl (Nat.le_of_ble_eq_true rfl) (Nat.le_of_ble_eq_true rfl) (Nat.le_of_ble_eq_true rfl) (by omega) (by omega) dX16_isAsOne_2_176 (fun v w1 hp => ?_)
                      obtain ⟨rfl, rfl⟩ := hp
                      refine g_nrm (cs1 := [wq, [(h, ob 14 [.ref ha, .ref tr])], wh, [(tr, lA (aC E 1) 400 g)]]) (st1 := [.int (if rAns r15 = (-1) then 0 else 1)]) rfl rfl ?_
                      refine g_if_eq hX (pc := 179) (tgt := 196) dX16_isAsOne_2_179 rfl (fun c26_ => ?_) (fun c26_ => ?_)
                      · have c26 := z01.mp c26_
                        refine g_iconst hX (pc := 196) (v := 1) dX16_isAsOne_2_196 (by decide) ?_
                        refine g_goto hX (pc := 197) (tgt := 201) dX16_isAsOne_2_197 rfl ?_
                        refine g_istore hX (pc := 201) (lv1 := [(7, .int 1), (6, .ref y17), (5, .int (nI i)), (0, .ref h), (1, .int (nI s)), (2, .int (nI v))]) dX16_isAsOne_2_201 (by decide) rfl ?_
                        refine g_iload hX (pc := 203) dX16_isAsOne_2_203 0 rfl ?_
                        refine g_if_eq hX (pc := 205) (tgt := 229) dX16_isAsOne_2_205 rfl (fun c27 => ?_) (fun c27 => ?_)
                        · exact absurd c27 (by decide)
                        · refine g_aload_n hX (pc := 208) dX16_isAsOne_2_208 3 rfl ?_
                          refine g_iload_n hX (pc := 209) dX16_isAsOne_2_209 4 rfl ?_
                          refine g_iconst hX (pc := 210) (v := 1) dX16_isAsOne_2_210 (by decide) ?_
                          refine g_iload hX (pc := 211) dX16_isAsOne_2_211 2 rfl ?_
                          refine g_ishl hX (pc := 213) dX16_isAsOne_2_213 ?_
                          refine g_ior hX (pc := 214) dX16_isAsOne_2_214 ?_
                          refine g_eqi (nI (s ||| 1 <<< i)) (sb_or s hs i (by omega)) ?_
                          refine g_aload hX (pc := 215) dX16_isAsOne_2_215 1 rfl ?_
                          refine g_iload_n hX (pc := 217) dX16_isAsOne_2_217 5 rfl ?_
                          refine g_callV hX (pc := 218) kX12_behind (mt_Request_behindM E l y17 r15 wq (nI v) (hm21) ((hl.2 r15 (List.mem_of_getElem? hgr15)).1)) q722 fcX12 (sp_in 0 rfl hm21) [0] rfl rfl rfl (Nat.le_of_ble_eq_true rfl) (Nat.le_of_ble_eq_true rfl) (Nat.le_of_ble_eq_true rfl) (by omega) (by omega) dX16_isAsOne_2_218 (fun v w1 hp => ?_)
                          obtain ⟨rfl, rfl⟩ := hp
                          refine g_nrm (cs1 := [wq, [(h, ob 14 [.ref ha, .ref tr])], wh, [(tr, lA (aC E 1) 400 g)]]) (st1 := [.int (rqBeh (rK r15) (rA r15) (rB r15) (nI v)), .int (nI (s ||| 1 <<< i)), .ref h]) rfl rfl ?_
                          refine g_eqi (nI (hBeh r15 v)) ((beh_ok (hl.2 r15 (List.mem_of_getElem? hgr15)).2 hv).1) ?_
                          refine g_callV hX (pc := 221) kX16_isAsOne_2 (mt_History_isAsOne_4 E l h ha tr g gl wh wq (s ||| 1 <<< i) (hBeh r15 v) hw (hl) (sb_lt s hs i (by omega)) ((beh_ok (hl.2 r15 (List.mem_of_getElem? hgr15)).2 hv).2) (uns_call d2 hb hd) (TJ.pre hJ (sb_gt hb))) q706 fcX16 (sp_mem (i := 1) rfl) [1, 2, 1, 0] rfl rfl rfl (Nat.le_of_ble_eq_true rfl) (Nat.le_of_ble_eq_true rfl) (Nat.le_of_ble_eq_true rfl) (by omega) (by omega) dX16_isAsOne_2_221 (fun v w1 hp => ?_)
                          obtain ⟨f128, h29, h30, rfl, rfl⟩ := hp
                          refine g_nrm (cs1 := [[(h, ob 14 [.ref ha, .ref tr])], [(tr, lA (aC E 1) 400 f128)], wh, wq]) (st1 := [.int (bI (LIN gl (s ||| 1 <<< i) (hBeh r15 v)))]) rfl rfl ?_
                          refine g_if_eq hX (pc := 224) (tgt := 229) dX16_isAsOne_2_224 rfl (fun c31_ => ?_) (fun c31_ => ?_)
                          · have c31 := bI_0.mp c31_
                            refine g_iinc hX (pc := 229) (v := nI (i + 1)) (lv1 := [(5, .int (nI (i + 1))), (7, .int 1), (6, .ref y17), (0, .ref h), (1, .int (nI s)), (2, .int (nI v))]) dX16_isAsOne_2_229 2 rfl (nI_1 _) (by decide) rfl ?_
                            refine g_goto hX (pc := 232) (tgt := 125) dX16_isAsOne_2_232 rfl ?_
                            refine g_lv (lv1 := [(5, .int (nI (i + 1))), (0, .ref h), (1, .int (nI s)), (2, .int (nI v))]) [0, 3, 4, 5] rfl ?_
                            refine g_widen (kc1 := 0) (ks1 := 0) (by omega) (by omega) ?_
                            exact ih2 (i + 1) f128 (by omega) (by omega) (TJ.call hJ (sb_gt hb) h29 (h30 c31)) (TS.tr hS (Nat.le_of_lt (sb_gt hb)) h29) (any_n hgr15 hany (Or.inr (Or.inr c31)))
                          · have c31 := mt bI_0.mpr c31_
                            refine g_iconst hX (pc := 227) (v := 1) dX16_isAsOne_2_227 (by decide) ?_
                            refine g_zret hX (pc := 228) hR rfl ?_ (by omega) (by omega) dX16_isAsOne_2_228
                            have hL := LIN_y hl.1 d2 hgr15 hb (can_y (by simpa using c24) (Or.inl c26)) (by simpa using c31)
                            rw [hL]
                            exact ⟨_, TS.tr hS (Nat.le_of_lt (sb_gt hb)) h29, fun z => absurd z (by decide), rfl, rfl⟩
                      · have c26 := z01n.mp c26_
                        refine g_aload hX (pc := 182) dX16_isAsOne_2_182 0 rfl ?_
                        refine g_iload_n hX (pc := 184) dX16_isAsOne_2_184 4 rfl ?_
                        refine g_callV hX (pc := 185) kX12_told (mt_Request_toldM E l y17 r15 wq (nI v) (hm21) ((hl.2 r15 (List.mem_of_getElem? hgr15)).1)) q718 fcX12 (sp_in 0 rfl hm21) [0] rfl rfl rfl (Nat.le_of_ble_eq_true rfl) (Nat.le_of_ble_eq_true rfl) (Nat.le_of_ble_eq_true rfl) (by omega) (by omega) dX16_isAsOne_2_185 (fun v w1 hp => ?_)
                        obtain ⟨rfl, rfl⟩ := hp
                        refine g_nrm (cs1 := [wq, [(h, ob 14 [.ref ha, .ref tr])], wh, [(tr, lA (aC E 1) 400 g)]]) (st1 := [.int (rqTold (rK r15) (rA r15) (nI v))]) rfl rfl ?_
                        refine g_aload hX (pc := 188) dX16_isAsOne_2_188 0 rfl ?_
                        refine g_getNm hX (pc := 190) fcX12 (sp_in 0 rfl hm21) 5 (by decide) q1005 rfl (v := .int (rRes r15)) rfl dX16_isAsOne_2_190 ?_
                        refine g_icmp_ne hX (pc := 193) (tgt := 200) dX16_isAsOne_2_193 rfl (fun c32 => ?_) (fun c32 => ?_)
                        · refine g_iconst hX (pc := 200) (v := 0) dX16_isAsOne_2_200 (by decide) ?_
                          refine g_istore hX (pc := 201) (lv1 := [(7, .int 0), (6, .ref y17), (5, .int (nI i)), (0, .ref h), (1, .int (nI s)), (2, .int (nI v))]) dX16_isAsOne_2_201 (by decide) rfl ?_
                          refine g_iload hX (pc := 203) dX16_isAsOne_2_203 0 rfl ?_
                          refine g_if_eq hX (pc := 205) (tgt := 229) dX16_isAsOne_2_205 rfl (fun c33 => ?_) (fun c33 => ?_)
                          · refine g_iinc hX (pc := 229) (v := nI (i + 1)) (lv1 := [(5, .int (nI (i + 1))), (7, .int 0), (6, .ref y17), (0, .ref h), (1, .int (nI s)), (2, .int (nI v))]) dX16_isAsOne_2_229 2 rfl (nI_1 _) (by decide) rfl ?_
                            refine g_goto hX (pc := 232) (tgt := 125) dX16_isAsOne_2_232 rfl ?_
                            refine g_pk [1, 2, 1, 0] rfl ?_
                            refine g_cs (cs1 := [[(h, ob 14 [.ref ha, .ref tr])], [(tr, lA (aC E 1) 400 g)], wh, wq]) rfl ?_
                            refine g_lv (lv1 := [(5, .int (nI (i + 1))), (0, .ref h), (1, .int (nI s)), (2, .int (nI v))]) [0, 3, 4, 5] rfl ?_
                            refine g_widen (kc1 := 0) (ks1 := 0) (by omega) (by omega) ?_
                            exact ih2 (i + 1) g (by omega) (by omega) (hJ) (hS) (any_n hgr15 hany (Or.inr (Or.inl (can_n2 c26 c32))))
                          · exact absurd c33 (by decide)
                        · refine g_iconst hX (pc := 196) (v := 1) dX16_isAsOne_2_196 (by decide) ?_
                          refine g_goto hX (pc := 197) (tgt := 201) dX16_isAsOne_2_197 rfl ?_
                          refine g_istore hX (pc := 201) (lv1 := [(7, .int 1), (6, .ref y17), (5, .int (nI i)), (0, .ref h), (1, .int (nI s)), (2, .int (nI v))]) dX16_isAsOne_2_201 (by decide) rfl ?_
                          refine g_iload hX (pc := 203) dX16_isAsOne_2_203 0 rfl ?_
                          refine g_if_eq hX (pc := 205) (tgt := 229) dX16_isAsOne_2_205 rfl (fun c34 => ?_) (fun c34 => ?_)
                          · exact absurd c34 (by decide)
                          · refine g_aload_n hX (pc := 208) dX16_isAsOne_2_208 3 rfl ?_
                            refine g_iload_n hX (pc := 209) dX16_isAsOne_2_209 4 rfl ?_
                            refine g_iconst hX (pc := 210) (v := 1) dX16_isAsOne_2_210 (by decide) ?_
                            refine g_iload hX (pc := 211) dX16_isAsOne_2_211 2 rfl ?_
                            refine g_ishl hX (pc := 213) dX16_isAsOne_2_213 ?_
                            refine g_ior hX (pc := 214) dX16_isAsOne_2_214 ?_
                            refine g_eqi (nI (s ||| 1 <<< i)) (sb_or s hs i (by omega)) ?_
                            refine g_aload hX (pc := 215) dX16_isAsOne_2_215 1 rfl ?_
                            refine g_iload_n hX (pc := 217) dX16_isAsOne_2_217 5 rfl ?_
                            refine g_callV hX (pc := 218) kX12_behind (mt_Request_behindM E l y17 r15 wq (nI v) (hm21) ((hl.2 r15 (List.mem_of_getElem? hgr15)).1)) q722 fcX12 (sp_in 0 rfl hm21) [0] rfl rfl rfl (Nat.le_of_ble_eq_true rfl) (Nat.le_of_ble_eq_true rfl) (Nat.le_of_ble_eq_true rfl) (by omega) (by omega) dX16_isAsOne_2_218 (fun v w1 hp => ?_)
                            obtain ⟨rfl, rfl⟩ := hp
                            refine g_nrm (cs1 := [wq, [(h, ob 14 [.ref ha, .ref tr])], wh, [(tr, lA (aC E 1) 400 g)]]) (st1 := [.int (rqBeh (rK r15) (rA r15) (rB r15) (nI v)), .int (nI (s ||| 1 <<< i)), .ref h]) rfl rfl ?_
                            refine g_eqi (nI (hBeh r15 v)) ((beh_ok (hl.2 r15 (List.mem_of_getElem? hgr15)).2 hv).1) ?_
                            refine g_callV hX (pc := 221) kX16_isAsOne_2 (mt_History_isAsOne_4 E l h ha tr g gl wh wq (s ||| 1 <<< i) (hBeh r15 v) hw (hl) (sb_lt s hs i (by omega)) ((beh_ok (hl.2 r15 (List.mem_of_getElem? hgr15)).2 hv).2) (uns_call d2 hb hd) (TJ.pre hJ (sb_gt hb))) q706 fcX16 (sp_mem (i := 1) rfl) [1, 2, 1, 0] rfl rfl rfl (Nat.le_of_ble_eq_true rfl) (Nat.le_of_ble_eq_true rfl) (Nat.le_of_ble_eq_true rfl) (by omega) (by omega) dX16_isAsOne_2_221 (fun v w1 hp => ?_)
                            obtain ⟨f135, h36, h37, rfl, rfl⟩ := hp
                            refine g_nrm (cs1 := [[(h, ob 14 [.ref ha, .ref tr])], [(tr, lA (aC E 1) 400 f135)], wh, wq]) (st1 := [.int (bI (LIN gl (s ||| 1 <<< i) (hBeh r15 v)))]) rfl rfl ?_
                            refine g_if_eq hX (pc := 224) (tgt := 229) dX16_isAsOne_2_224 rfl (fun c38_ => ?_) (fun c38_ => ?_)
                            · have c38 := bI_0.mp c38_
                              refine g_iinc hX (pc := 229) (v := nI (i + 1)) (lv1 := [(5, .int (nI (i + 1))), (7, .int 1), (6, .ref y17), (0, .ref h), (1, .int (nI s)), (2, .int (nI v))]) dX16_isAsOne_2_229 2 rfl (nI_1 _) (by decide) rfl ?_
                              refine g_goto hX (pc := 232) (tgt := 125) dX16_isAsOne_2_232 rfl ?_
                              refine g_lv (lv1 := [(5, .int (nI (i + 1))), (0, .ref h), (1, .int (nI s)), (2, .int (nI v))]) [0, 3, 4, 5] rfl ?_
                              refine g_widen (kc1 := 0) (ks1 := 0) (by omega) (by omega) ?_
                              exact ih2 (i + 1) f135 (by omega) (by omega) (TJ.call hJ (sb_gt hb) h36 (h37 c38)) (TS.tr hS (Nat.le_of_lt (sb_gt hb)) h36) (any_n hgr15 hany (Or.inr (Or.inr c38)))
                            · have c38 := mt bI_0.mpr c38_
                              refine g_iconst hX (pc := 227) (v := 1) dX16_isAsOne_2_227 (by decide) ?_
                              refine g_zret hX (pc := 228) hR rfl ?_ (by omega) (by omega) dX16_isAsOne_2_228
                              have hL := LIN_y hl.1 d2 hgr15 hb (can_y (by simpa using c24) (Or.inr c32)) (by simpa using c38)
                              rw [hL]
                              exact ⟨_, TS.tr hS (Nat.le_of_lt (sb_gt hb)) h36, fun z => absurd z (by decide), rfl, rfl⟩
            refine g_pk [1, 1, 0, 0] rfl ?_
            refine g_cs (cs1 := [[(h, ob 14 [.ref ha, .ref tr])], [(tr, lA (aC E 1) 400 f2)], wh, wq]) rfl ?_
            refine g_lv (lv1 := [(5, .int (nI 0)), (0, .ref h), (1, .int (nI s)), (2, .int (nI v))]) [0, 3, 4, 5] rfl ?_
            refine g_widen (kc1 := 0) (ks1 := 0) (by omega) (by omega) ?_
            exact lp13 ((List.length gl - 0) + 1) 0 f2 (Nat.lt_succ_self _) (Nat.zero_le _) (hJ0) (hS0) (rfl)
          · refine g_iconst hX (pc := 100) (v := 0) dX16_isAsOne_2_100 (by decide) ?_
            refine g_pk [1, 1, 0, 0] rfl ?_
            refine g_cs (cs1 := [[(h, ob 14 [.ref ha, .ref tr])], [(tr, lA (aC E 1) 400 f)], wh, wq]) rfl ?_
            refine g_zret hX (pc := 101) hR rfl ?_ (by omega) (by omega) dX16_isAsOne_2_101
            have hL := hT s v (Nat.le_refl _) hv (lcmp_1.mp c12)
            rw [hL]
            exact ⟨_, fun _ _ _ _ => rfl, fun _ => hT, rfl, rfl⟩
        · have c11 := mt bI_0.mpr c11_
          refine g_iconst hX (pc := 67) (v := 1) dX16_isAsOne_2_67 (by decide) ?_
          refine g_pk [1, 1, 0, 0] rfl ?_
          refine g_cs (cs1 := [[(h, ob 14 [.ref ha, .ref tr])], [(tr, lA (aC E 1) 400 f)], wh, wq]) rfl ?_
          refine g_zret hX (pc := 68) hR rfl ?_ (by omega) (by omega) dX16_isAsOne_2_68
          have hL := LIN_d hl.1 (v := v) (by rw [← d1]; simpa using c11)
          rw [hL]
          exact ⟨_, fun _ _ _ _ => rfl, fun z => absurd z (by decide), rfl, rfl⟩
      · have d1 : k < List.length gl := by
          have := mt (nI_leI (by omega) (by omega)).mpr c10
          omega
        obtain ⟨r39, hgr39⟩ := get_ex (l := gl) (i := k) (d1)
        obtain ⟨as40, y41, hA42, hl43, hk44, hm45⟩ := HL.at hw hgr39
        refine g_iload_n hX (pc := 19) dX16_isAsOne_2_19 1 rfl ?_
        refine g_iload_n hX (pc := 20) dX16_isAsOne_2_20 3 rfl ?_
        refine g_iload hX (pc := 21) dX16_isAsOne_2_21 0 rfl ?_
        refine g_ishr hX (pc := 23) dX16_isAsOne_2_23 ?_
        refine g_iconst hX (pc := 24) (v := 1) dX16_isAsOne_2_24 (by decide) ?_
        refine g_iand hX (pc := 25) dX16_isAsOne_2_25 ?_
        refine g_eqi (bI (Nat.testBit s k)) (sb_get s hs k (by omega)) ?_
        refine g_iconst hX (pc := 26) (v := 1) dX16_isAsOne_2_26 (by decide) ?_
        refine g_icmp_eq hX (pc := 27) (tgt := 50) dX16_isAsOne_2_27 rfl (fun c46 => ?_) (fun c46 => ?_)
        · refine g_iconst hX (pc := 50) (v := 1) dX16_isAsOne_2_50 (by decide) ?_
          refine g_goto hX (pc := 51) (tgt := 55) dX16_isAsOne_2_51 rfl ?_
          refine g_iand hX (pc := 55) dX16_isAsOne_2_55 ?_
          refine g_eqi (bI (dnUp gl s (k + 1))) (dn_1 (Or.inl (bI_1.mp c46))) ?_
          refine g_istore_n hX (pc := 56) (lv1 := [(3, .int (bI (dnUp gl s (k + 1)))), (4, .int (nI k)), (0, .ref h), (1, .int (nI s)), (2, .int (nI v))]) dX16_isAsOne_2_56 (by decide) rfl ?_
          refine g_iinc hX (pc := 57) (v := nI (k + 1)) (lv1 := [(4, .int (nI (k + 1))), (3, .int (bI (dnUp gl s (k + 1)))), (0, .ref h), (1, .int (nI s)), (2, .int (nI v))]) dX16_isAsOne_2_57 1 rfl (nI_1 _) (by decide) rfl ?_
          refine g_goto hX (pc := 60) (tgt := 5) dX16_isAsOne_2_60 rfl ?_
          refine g_pk [1, 1, 0, 0] rfl ?_
          refine g_cs (cs1 := [[(h, ob 14 [.ref ha, .ref tr])], [(tr, lA (aC E 1) 400 f)], wh, wq]) rfl ?_
          refine g_widen (kc1 := 0) (ks1 := 0) (by omega) (by omega) ?_
          exact ih1 (k + 1) (by omega) (by omega)
        · refine g_aload_n hX (pc := 30) dX16_isAsOne_2_30 2 rfl ?_
          refine g_get hX (pc := 31) fcX16 1 rfl 0 (by decide) q695 rfl (v := .ref ha) rfl dX16_isAsOne_2_31 ?_
          refine g_iload hX (pc := 34) dX16_isAsOne_2_34 0 rfl ?_
          refine g_callF hX (pc := 36) kfJ2_get (mt_AL_get E l ha as40 wh k y41 hA42 (hk44)) q270 fcJ2 (sp_in 0 rfl hm9) [0] rfl rfl rfl (Nat.le_of_ble_eq_true rfl) (Nat.le_of_ble_eq_true rfl) (Nat.le_of_ble_eq_true rfl) (by omega) (by omega) dX16_isAsOne_2_36 (fun v w1 hp => ?_)
          obtain ⟨rfl, rfl⟩ := hp
          refine g_nrm (cs1 := [wh, [(h, ob 14 [.ref ha, .ref tr])], [(tr, lA (aC E 1) 400 f)], wq]) (st1 := [.ref y41, .int (bI (dnUp gl s k))]) rfl rfl ?_
          refine g_cast hX (pc := 41) fcX12 (sp_in 3 rfl hm45) q271 dX16_isAsOne_2_41 ?_
          refine g_callV hX (pc := 44) kX12_isAnswered (mt_Request_isAnsweredM E l y41 r39 wq (hm45)) q710 fcX12 (sp_in 3 rfl hm45) [3] rfl rfl rfl (Nat.le_of_ble_eq_true rfl) (Nat.le_of_ble_eq_true rfl) (Nat.le_of_ble_eq_true rfl) (by omega) (by omega) dX16_isAsOne_2_44 (fun v w1 hp => ?_)
          obtain ⟨rfl, rfl⟩ := hp
          refine g_nrm (cs1 := [wq, wh, [(h, ob 14 [.ref ha, .ref tr])], [(tr, lA (aC E 1) 400 f)]]) (st1 := [.int (if rAns r39 = (-1) then 0 else 1), .int (bI (dnUp gl s k))]) rfl rfl ?_
          refine g_if_ne hX (pc := 47) (tgt := 54) dX16_isAsOne_2_47 rfl (fun c47_ => ?_) (fun c47_ => ?_)
          · have c47 := z01n.mp c47_
            refine g_iconst hX (pc := 54) (v := 0) dX16_isAsOne_2_54 (by decide) ?_
            refine g_iand hX (pc := 55) dX16_isAsOne_2_55 ?_
            refine g_eqi (bI (dnUp gl s (k + 1))) (dn_0 (fun z => c46 (bI_1.mpr z)) (by rw [hG_e hgr39]; exact c47)) ?_
            refine g_istore_n hX (pc := 56) (lv1 := [(3, .int (bI (dnUp gl s (k + 1)))), (4, .int (nI k)), (0, .ref h), (1, .int (nI s)), (2, .int (nI v))]) dX16_isAsOne_2_56 (by decide) rfl ?_
            refine g_iinc hX (pc := 57) (v := nI (k + 1)) (lv1 := [(4, .int (nI (k + 1))), (3, .int (bI (dnUp gl s (k + 1)))), (0, .ref h), (1, .int (nI s)), (2, .int (nI v))]) dX16_isAsOne_2_57 1 rfl (nI_1 _) (by decide) rfl ?_
            refine g_goto hX (pc := 60) (tgt := 5) dX16_isAsOne_2_60 rfl ?_
            refine g_pk [2, 2, 1, 0] rfl ?_
            refine g_cs (cs1 := [[(h, ob 14 [.ref ha, .ref tr])], [(tr, lA (aC E 1) 400 f)], wh, wq]) rfl ?_
            refine g_widen (kc1 := 0) (ks1 := 0) (by omega) (by omega) ?_
            exact ih1 (k + 1) (by omega) (by omega)
          · have c47 := z01.mp c47_
            refine g_iconst hX (pc := 50) (v := 1) dX16_isAsOne_2_50 (by decide) ?_
            refine g_goto hX (pc := 51) (tgt := 55) dX16_isAsOne_2_51 rfl ?_
            refine g_iand hX (pc := 55) dX16_isAsOne_2_55 ?_
            refine g_eqi (bI (dnUp gl s (k + 1))) (dn_1 (Or.inr (by rw [hG_e hgr39]; exact c47))) ?_
            refine g_istore_n hX (pc := 56) (lv1 := [(3, .int (bI (dnUp gl s (k + 1)))), (4, .int (nI k)), (0, .ref h), (1, .int (nI s)), (2, .int (nI v))]) dX16_isAsOne_2_56 (by decide) rfl ?_
            refine g_iinc hX (pc := 57) (v := nI (k + 1)) (lv1 := [(4, .int (nI (k + 1))), (3, .int (bI (dnUp gl s (k + 1)))), (0, .ref h), (1, .int (nI s)), (2, .int (nI v))]) dX16_isAsOne_2_57 1 rfl (nI_1 _) (by decide) rfl ?_
            refine g_goto hX (pc := 60) (tgt := 5) dX16_isAsOne_2_60 rfl ?_
            refine g_pk [2, 2, 1, 0] rfl ?_
            refine g_cs (cs1 := [[(h, ob 14 [.ref ha, .ref tr])], [(tr, lA (aC E 1) 400 f)], wh, wq]) rfl ?_
            refine g_widen (kc1 := 0) (ks1 := 0) (by omega) (by omega) ?_
            exact ih1 (k + 1) (by omega) (by omega)
  refine g_widen (kc1 := 0) (ks1 := 0) (by omega) (by omega) ?_
  exact lp7 ((List.length gl - 0) + 1) 0 (Nat.lt_succ_self _) (Nat.zero_le _)

set_option maxHeartbeats 4000000 in
theorem mt_History_isAsOne_6 (E : EE) (l : Launch) (h : Nat) (ha : Nat) (tr : Nat) (f : Nat → Int64) (gl : List PR) (wh : va_W) (wq : va_W) (s : Nat) (v : Nat) (hw : HL E ha gl wq wh) (hl : (hOKl gl)) (hs : (s < 256)) (hv : (v < 100)) (hd : (unsUp s (List.length gl) ≤ 6)) (hT : (TI gl f s)) : Mt E l yX16_isAsOne_2 cX16_isAsOne_2 8 (some .boolean) 11 0 0 252 [.ref h, .int (nI s), .int (nI v)] [[(h, ob 14 [.ref ha, .ref tr])], [(tr, lA (aC E 1) 400 f)], wh, wq] (fun (v_ : Option Value) (cs_ : List va_W) => ∃ (f1 : Nat → Int64), (TS f f1 s) ∧ (LIN gl s v = false → TI gl f1 s) ∧ v_ = some (.int (bI (LIN gl s v))) ∧ cs_ = [[(h, ob 14 [.ref ha, .ref tr])], [(tr, lA (aC E 1) 400 f1)], wh, wq]) := by
  have hl8 := hl.1
  have hat64 : hAt s v / 64 < 400 := by show (s * 100 + v) / 64 < 400; omega
  have hat31 : hAt s v < 2 ^ 31 := by show s * 100 + v < 2 ^ 31; omega
  refine Mt.of (by decide) (Nat.le_of_ble_eq_true rfl) (fun X hX hR hin => ?_)
  refine g_lv1 (lv1 := [(0, .ref h), (1, .int (nI s)), (2, .int (nI v))]) rfl ?_
  obtain ⟨as1, hA2, hal3, hok4, hins5, hera6⟩ := HL.al hw
  refine g_iconst hX (pc := 0) (v := 1) dX16_isAsOne_2_0 (by decide) ?_
  refine g_eqi (bI (dnUp gl s 0)) (rfl) ?_
  refine g_istore_n hX (pc := 1) (lv1 := [(3, .int (bI (dnUp gl s 0))), (0, .ref h), (1, .int (nI s)), (2, .int (nI v))]) dX16_isAsOne_2_1 (by decide) rfl ?_
  refine g_iconst hX (pc := 2) (v := 0) dX16_isAsOne_2_2 (by decide) ?_
  refine g_eqi (nI 0) (nI_0.symm) ?_
  refine g_istore hX (pc := 3) (lv1 := [(4, .int (nI 0)), (3, .int (bI (dnUp gl s 0))), (0, .ref h), (1, .int (nI s)), (2, .int (nI v))]) dX16_isAsOne_2_3 (by decide) rfl ?_
  have lp7 : ∀ (F1 : Nat) (k : Nat), List.length gl - k < F1 → (k ≤ List.length gl) → G E l X [[(h, ob 14 [.ref ha, .ref tr])], [(tr, lA (aC E 1) 400 f)], wh, wq] 0 0 5 [(4, .int (nI k)), (3, .int (bI (dnUp gl s k))), (0, .ref h), (1, .int (nI s)), (2, .int (nI v))] [] := by
    intro F1
    induction F1 with
    | zero =>
      intro k hF hk
      exact absurd hF (Nat.not_lt_zero _)
    | succ F1 ih1 =>
      intro k hF hk
      refine g_iload hX (pc := 5) dX16_isAsOne_2_5 0 rfl ?_
      refine g_aload_n hX (pc := 7) dX16_isAsOne_2_7 2 rfl ?_
      refine g_get hX (pc := 8) fcX16 0 rfl 0 (by decide) q695 rfl (v := .ref ha) rfl dX16_isAsOne_2_8 ?_
      obtain ⟨fs8, hm9⟩ := AL.head hA2
      refine g_callF hX (pc := 11) kfJ2_size (mt_AL_size E l ha as1 wh hA2) q268 fcJ2 (sp_in 2 rfl hm9) [2] rfl rfl rfl (Nat.le_of_ble_eq_true rfl) (Nat.le_of_ble_eq_true rfl) (Nat.le_of_ble_eq_true rfl) (by omega) (by omega) dX16_isAsOne_2_11 (fun v w1 hp => ?_)
      obtain ⟨rfl, rfl⟩ := hp
      refine g_nrm (cs1 := [wh, [(h, ob 14 [.ref ha, .ref tr])], [(tr, lA (aC E 1) 400 f)], wq]) (st1 := [.int (nI (List.length as1)), .int (nI k)]) rfl rfl ?_
      refine g_eqi (nI (List.length gl)) (by rw [hal3]) ?_
      refine g_icmp_ge hX (pc := 16) (tgt := 63) dX16_isAsOne_2_16 rfl (fun c10 => ?_) (fun c10 => ?_)
      · have d1 : k = List.length gl := by
          have := (nI_leI (by omega) (by omega)).mp c10
          omega
        refine g_iload_n hX (pc := 63) dX16_isAsOne_2_63 1 rfl ?_
        refine g_if_eq hX (pc := 64) (tgt := 69) dX16_isAsOne_2_64 rfl (fun c11_ => ?_) (fun c11_ => ?_)
        · have c11 := bI_0.mp c11_
          have hdn : dnUp gl s (List.length gl) = false := by rw [← d1]; exact c11
          refine g_iload_n hX (pc := 69) dX16_isAsOne_2_69 3 rfl ?_
          refine g_bipush hX (pc := 70) (v := 100) dX16_isAsOne_2_70 (by decide) ?_
          refine g_imul hX (pc := 72) dX16_isAsOne_2_72 ?_
          refine g_eqi (nI (s * 100)) (by rw [show (100 : Int32) = nI 100 from rfl, pk_mul]) ?_
          refine g_iload_n hX (pc := 73) dX16_isAsOne_2_73 4 rfl ?_
          refine g_iadd hX (pc := 74) dX16_isAsOne_2_74 ?_
          refine g_eqi (nI (hAt s v)) (nI_add _ _) ?_
          refine g_istore hX (pc := 75) (lv1 := [(4, .int (nI (hAt s v))), (3, .int (bI (dnUp gl s k))), (0, .ref h), (1, .int (nI s)), (2, .int (nI v))]) dX16_isAsOne_2_75 (by decide) rfl ?_
          refine g_aload_n hX (pc := 77) dX16_isAsOne_2_77 2 rfl ?_
          refine g_get hX (pc := 78) fcX16 1 rfl 1 (by decide) q696 rfl (v := .ref tr) rfl dX16_isAsOne_2_78 ?_
          refine g_iload hX (pc := 81) dX16_isAsOne_2_81 0 rfl ?_
          refine g_bipush hX (pc := 83) (v := 64) dX16_isAsOne_2_83 (by decide) ?_
          refine g_idiv hX (pc := 85) dX16_isAsOne_2_85 (by decide) ?_
          refine g_eqi (nI (hAt s v / 64)) (by rw [show (64 : Int32) = nI 64 from rfl, pk_div (by omega) (by omega) (by omega)]) ?_
          refine g_lald hX (pc := 86) (sp_mem (i := 2) rfl) (v := f (hAt s v / 64)) (vp_in_nI hat64 (by omega)) (by rw [nI_clamp (by omega)]) dX16_isAsOne_2_86 ?_
          refine g_iload hX (pc := 87) dX16_isAsOne_2_87 0 rfl ?_
          refine g_bipush hX (pc := 89) (v := 64) dX16_isAsOne_2_89 (by decide) ?_
          refine g_irem hX (pc := 91) dX16_isAsOne_2_91 (by decide) ?_
          refine g_eqi (nI (hAt s v % 64)) (by rw [show (64 : Int32) = nI 64 from rfl, pk_rem (by omega) (by omega) (by omega)]) ?_
          refine g_lshr hX (pc := 92) (v := (f (hAt s v / 64)) >>> (Int32.toInt64 (nI (hAt s v % 64)) &&& 63)) dX16_isAsOne_2_92 rfl ?_
          refine g_lconst hX (pc := 93) (v := 1) dX16_isAsOne_2_93 (by decide) ?_
          refine g_land hX (pc := 94) dX16_isAsOne_2_94 ?_
          refine g_lconst hX (pc := 95) (v := 1) dX16_isAsOne_2_95 (by decide) ?_
          refine g_lcmp hX (pc := 96) dX16_isAsOne_2_96 ?_
          refine g_if_ne hX (pc := 97) (tgt := 102) dX16_isAsOne_2_97 rfl (fun c12 => ?_) (fun c12 => ?_)
          · refine g_aload_n hX (pc := 102) dX16_isAsOne_2_102 2 rfl ?_
            refine g_get hX (pc := 103) fcX16 1 rfl 1 (by decide) q696 rfl (v := .ref tr) rfl dX16_isAsOne_2_103 ?_
            refine g_iload hX (pc := 106) dX16_isAsOne_2_106 0 rfl ?_
            refine g_bipush hX (pc := 108) (v := 64) dX16_isAsOne_2_108 (by decide) ?_
            refine g_idiv hX (pc := 110) dX16_isAsOne_2_110 (by decide) ?_
            refine g_eqi (nI (hAt s v / 64)) (by rw [show (64 : Int32) = nI 64 from rfl, pk_div (by omega) (by omega) (by omega)]) ?_
            refine g_dup2_11 hX (pc := 111) dX16_isAsOne_2_111 rfl rfl ?_
            refine g_lald hX (pc := 112) (sp_mem (i := 2) rfl) (v := f (hAt s v / 64)) (vp_in_nI hat64 (by omega)) (by rw [nI_clamp (by omega)]) dX16_isAsOne_2_112 ?_
            refine g_lconst hX (pc := 113) (v := 1) dX16_isAsOne_2_113 (by decide) ?_
            refine g_iload hX (pc := 114) dX16_isAsOne_2_114 0 rfl ?_
            refine g_bipush hX (pc := 116) (v := 64) dX16_isAsOne_2_116 (by decide) ?_
            refine g_irem hX (pc := 118) dX16_isAsOne_2_118 (by decide) ?_
            refine g_eqi (nI (hAt s v % 64)) (by rw [show (64 : Int32) = nI 64 from rfl, pk_rem (by omega) (by omega) (by omega)]) ?_
            refine g_lshl hX (pc := 119) (v := 1 <<< (Int32.toInt64 (nI (hAt s v % 64)) &&& 63)) dX16_isAsOne_2_119 rfl ?_
            refine g_lor hX (pc := 120) dX16_isAsOne_2_120 ?_
            refine g_last hX (pc := 121) (f1 := (vp_updL f (hAt s v / 64) (f (hAt s v / 64) ||| 1 <<< (Int32.toInt64 (nI (hAt s v % 64)) &&& 63)))) (cs1 := [wh, [(h, ob 14 [.ref ha, .ref tr])], [(tr, lA (aC E 1) 400 (vp_updL f (hAt s v / 64) (f (hAt s v / 64) ||| 1 <<< (Int32.toInt64 (nI (hAt s v % 64)) &&& 63))))], wq]) 2 rfl (vp_in_nI hat64 (by omega)) (by rw [nI_clamp (by omega)]) rfl dX16_isAsOne_2_121 ?_
            obtain ⟨hJ0, hS0⟩ := TJ.mark hT hv
            generalize (vp_updL f (hAt s v / 64) (f (hAt s v / 64) ||| 1 <<< (Int32.toInt64 (nI (hAt s v % 64)) &&& 63))) = f2 at hJ0 hS0 ⊢
            refine g_iconst hX (pc := 122) (v := 0) dX16_isAsOne_2_122 (by decide) ?_
            refine g_eqi (nI 0) (nI_0.symm) ?_
            refine g_istore hX (pc := 123) (lv1 := [(5, .int (nI 0)), (4, .int (nI (hAt s v))), (3, .int (bI (dnUp gl s k))), (0, .ref h), (1, .int (nI s)), (2, .int (nI v))]) dX16_isAsOne_2_123 (by decide) rfl ?_
            have lp13 : ∀ (F2 : Nat) (i : Nat) (g : Nat → Int64), List.length gl - i < F2 → (i ≤ List.length gl) → (TJ gl g s v) → (TS f g s) → (anyUp gl s v i = false) → G E l X [[(h, ob 14 [.ref ha, .ref tr])], [(tr, lA (aC E 1) 400 g)], wh, wq] 0 0 125 [(5, .int (nI i)), (0, .ref h), (1, .int (nI s)), (2, .int (nI v))] [] := by
              intro F2
              induction F2 with
              | zero =>
                intro i g hF hi hJ hS hany
                exact absurd hF (Nat.not_lt_zero _)
              | succ F2 ih2 =>
                intro i g hF hi hJ hS hany
                refine g_iload hX (pc := 125) dX16_isAsOne_2_125 0 rfl ?_
                refine g_aload_n hX (pc := 127) dX16_isAsOne_2_127 1 rfl ?_
                refine g_get hX (pc := 128) fcX16 0 rfl 0 (by decide) q695 rfl (v := .ref ha) rfl dX16_isAsOne_2_128 ?_
                refine g_callF hX (pc := 131) kfJ2_size (mt_AL_size E l ha as1 wh hA2) q268 fcJ2 (sp_in 2 rfl hm9) [2] rfl rfl rfl (Nat.le_of_ble_eq_true rfl) (Nat.le_of_ble_eq_true rfl) (Nat.le_of_ble_eq_true rfl) (by omega) (by omega) dX16_isAsOne_2_131 (fun v w1 hp => ?_)
                obtain ⟨rfl, rfl⟩ := hp
                refine g_nrm (cs1 := [wh, [(h, ob 14 [.ref ha, .ref tr])], [(tr, lA (aC E 1) 400 g)], wq]) (st1 := [.int (nI (List.length as1)), .int (nI i)]) rfl rfl ?_
                refine g_eqi (nI (List.length gl)) (by rw [hal3]) ?_
                refine g_icmp_ge hX (pc := 136) (tgt := 235) dX16_isAsOne_2_136 rfl (fun c14 => ?_) (fun c14 => ?_)
                · have d2 : i = List.length gl := by
                    have := (nI_leI (by omega) (by omega)).mp c14
                    omega
                  have hany2 : anyUp gl s v (List.length gl) = false := by rw [← d2]; exact hany
                  refine g_iconst hX (pc := 235) (v := 0) dX16_isAsOne_2_235 (by decide) ?_
                  refine g_pk [1, 1, 0, 0] rfl ?_
                  refine g_cs (cs1 := [[(h, ob 14 [.ref ha, .ref tr])], [(tr, lA (aC E 1) 400 g)], wh, wq]) rfl ?_
                  refine g_zret hX (pc := 236) hR rfl ?_ (by omega) (by omega) dX16_isAsOne_2_236
                  have hL := LIN_n hl.1 (v := v) hdn hany2
                  rw [hL]
                  exact ⟨_, hS, fun _ => hJ.done hL, rfl, rfl⟩
                · have d2 : i < List.length gl := by
                    have := mt (nI_leI (by omega) (by omega)).mpr c14
                    omega
                  obtain ⟨r15, hgr15⟩ := get_ex (l := gl) (i := i) (d2)
                  obtain ⟨as16, y17, hA18, hl19, hk20, hm21⟩ := HL.at hw hgr15
                  refine g_aload_n hX (pc := 139) dX16_isAsOne_2_139 1 rfl ?_
                  refine g_get hX (pc := 140) fcX16 1 rfl 0 (by decide) q695 rfl (v := .ref ha) rfl dX16_isAsOne_2_140 ?_
                  refine g_iload hX (pc := 143) dX16_isAsOne_2_143 0 rfl ?_
                  refine g_callF hX (pc := 145) kfJ2_get (mt_AL_get E l ha as16 wh i y17 hA18 (hk20)) q270 fcJ2 (sp_in 0 rfl hm9) [0] rfl rfl rfl (Nat.le_of_ble_eq_true rfl) (Nat.le_of_ble_eq_true rfl) (Nat.le_of_ble_eq_true rfl) (by omega) (by omega) dX16_isAsOne_2_145 (fun v w1 hp => ?_)
                  obtain ⟨rfl, rfl⟩ := hp
                  refine g_nrm (cs1 := [wh, [(h, ob 14 [.ref ha, .ref tr])], [(tr, lA (aC E 1) 400 g)], wq]) (st1 := [.ref y17]) rfl rfl ?_
                  refine g_cast hX (pc := 150) fcX12 (sp_in 3 rfl hm21) q271 dX16_isAsOne_2_150 ?_
                  refine g_astore hX (pc := 153) (lv1 := [(6, .ref y17), (5, .int (nI i)), (0, .ref h), (1, .int (nI s)), (2, .int (nI v))]) dX16_isAsOne_2_153 (by decide) rfl ?_
                  refine g_iload_n hX (pc := 155) dX16_isAsOne_2_155 3 rfl ?_
                  refine g_iload hX (pc := 156) dX16_isAsOne_2_156 1 rfl ?_
                  refine g_ishr hX (pc := 158) dX16_isAsOne_2_158 ?_
                  refine g_iconst hX (pc := 159) (v := 1) dX16_isAsOne_2_159 (by decide) ?_
                  refine g_iand hX (pc := 160) dX16_isAsOne_2_160 ?_
                  refine g_eqi (bI (Nat.testBit s i)) (sb_get s hs i (by omega)) ?_
                  refine g_if_ne hX (pc := 161) (tgt := 200) dX16_isAsOne_2_161 rfl (fun c22_ => ?_) (fun c22_ => ?_)
                  · have c22 := mt bI_0.mpr c22_
                    refine g_iconst hX (pc := 200) (v := 0) dX16_isAsOne_2_200 (by decide) ?_
                    refine g_istore hX (pc := 201) (lv1 := [(7, .int 0), (6, .ref y17), (5, .int (nI i)), (0, .ref h), (1, .int (nI s)), (2, .int (nI v))]) dX16_isAsOne_2_201 (by decide) rfl ?_
                    refine g_iload hX (pc := 203) dX16_isAsOne_2_203 0 rfl ?_
                    refine g_if_eq hX (pc := 205) (tgt := 229) dX16_isAsOne_2_205 rfl (fun c23 => ?_) (fun c23 => ?_)
                    · refine g_iinc hX (pc := 229) (v := nI (i + 1)) (lv1 := [(5, .int (nI (i + 1))), (7, .int 0), (6, .ref y17), (0, .ref h), (1, .int (nI s)), (2, .int (nI v))]) dX16_isAsOne_2_229 2 rfl (nI_1 _) (by decide) rfl ?_
                      refine g_goto hX (pc := 232) (tgt := 125) dX16_isAsOne_2_232 rfl ?_
                      refine g_pk [1, 1, 0, 0] rfl ?_
                      refine g_cs (cs1 := [[(h, ob 14 [.ref ha, .ref tr])], [(tr, lA (aC E 1) 400 g)], wh, wq]) rfl ?_
                      refine g_lv (lv1 := [(5, .int (nI (i + 1))), (0, .ref h), (1, .int (nI s)), (2, .int (nI v))]) [0, 3, 4, 5] rfl ?_
                      refine g_widen (kc1 := 0) (ks1 := 0) (by omega) (by omega) ?_
                      exact ih2 (i + 1) g (by omega) (by omega) (hJ) (hS) (any_n hgr15 hany (Or.inl (by simpa using c22)))
                    · exact absurd c23 (by decide)
                  · have c22 := bI_0.mp c22_
                    have hb : Nat.testBit s i = false := c22
                    refine g_aload_n hX (pc := 164) dX16_isAsOne_2_164 2 rfl ?_
                    refine g_iload_n hX (pc := 165) dX16_isAsOne_2_165 3 rfl ?_
                    refine g_aload hX (pc := 166) dX16_isAsOne_2_166 0 rfl ?_
                    refine g_callV hX (pc := 168) kX16_isNext (mt_History_isNext E l h ha tr gl wh wq s y17 r15 hw (hm21) (hl.1) (hs)) q714 fcX16 (sp_mem (i := 1) rfl) [1, 0, 1] rfl rfl rfl (Nat.le_of_ble_eq_true rfl) (Nat.le_of_ble_eq_true rfl) (Nat.le_of_ble_eq_true rfl) (by omega) (by omega) dX16_isAsOne_2_168 (fun v w1 hp => ?_)
                    obtain ⟨rfl, rfl⟩ := hp
                    refine g_nrm (cs1 := [[(h, ob 14 [.ref ha, .ref tr])], wh, wq, [(tr, lA (aC E 1) 400 g)]]) (st1 := [.int (bI (nxUp gl s r15 (List.length gl)))]) rfl rfl ?_
                    refine g_if_eq hX (pc := 171) (tgt := 200) dX16_isAsOne_2_171 rfl (fun c24_ => ?_) (fun c24_ => ?_)
                    · have c24 := bI_0.mp c24_
                      refine g_iconst hX (pc := 200) (v := 0) dX16_isAsOne_2_200 (by decide) ?_
                      refine g_istore hX (pc := 201) (lv1 := [(7, .int 0), (6, .ref y17), (5, .int (nI i)), (0, .ref h), (1, .int (nI s)), (2, .int (nI v))]) dX16_isAsOne_2_201 (by decide) rfl ?_
                      refine g_iload hX (pc := 203) dX16_isAsOne_2_203 0 rfl ?_
                      refine g_if_eq hX (pc := 205) (tgt := 229) dX16_isAsOne_2_205 rfl (fun c25 => ?_) (fun c25 => ?_)
                      · refine g_iinc hX (pc := 229) (v := nI (i + 1)) (lv1 := [(5, .int (nI (i + 1))), (7, .int 0), (6, .ref y17), (0, .ref h), (1, .int (nI s)), (2, .int (nI v))]) dX16_isAsOne_2_229 2 rfl (nI_1 _) (by decide) rfl ?_
                        refine g_goto hX (pc := 232) (tgt := 125) dX16_isAsOne_2_232 rfl ?_
                        refine g_pk [0, 2, 0, 0] rfl ?_
                        refine g_cs (cs1 := [[(h, ob 14 [.ref ha, .ref tr])], [(tr, lA (aC E 1) 400 g)], wh, wq]) rfl ?_
                        refine g_lv (lv1 := [(5, .int (nI (i + 1))), (0, .ref h), (1, .int (nI s)), (2, .int (nI v))]) [0, 3, 4, 5] rfl ?_
                        refine g_widen (kc1 := 0) (ks1 := 0) (by omega) (by omega) ?_
                        exact ih2 (i + 1) g (by omega) (by omega) (hJ) (hS) (any_n hgr15 hany (Or.inr (Or.inl (can_n1 c24))))
                      · exact absurd c25 (by decide)
                    · have c24 := mt bI_0.mpr c24_
                      refine g_aload hX (pc := 174) dX16_isAsOne_2_174 0 rfl ?_
                      refine g_callV hX (pc := 176) kX12_isAnswered (mt_Request_isAnsweredM E l y17 r15 wq (hm21)) q710 fcX12 (sp_in 2 rfl hm21) [2] rfl rfl rfl (Nat.le_of_ble_eq_true rfl) (Nat.le_of_ble_eq_true rfl) (Nat.le_of_ble_eq_true rfl) (by omega) (by omega) dX16_isAsOne_2_176 (fun v w1 hp => ?_)
                      obtain ⟨rfl, rfl⟩ := hp
                      refine g_nrm (cs1 := [wq, [(h, ob 14 [.ref ha, .ref tr])], wh, [(tr, lA (aC E 1) 400 g)]]) (st1 := [.int (if rAns r15 = (-1) then 0 else 1)]) rfl rfl ?_
                      refine g_if_eq hX (pc := 179) (tgt := 196) dX16_isAsOne_2_179 rfl (fun c26_ => ?_) (fun c26_ => ?_)
                      · have c26 := z01.mp c26_
                        refine g_iconst hX (pc := 196) (v := 1) dX16_isAsOne_2_196 (by decide) ?_
                        refine g_goto hX (pc := 197) (tgt := 201) dX16_isAsOne_2_197 rfl ?_
                        refine g_istore hX (pc := 201) (lv1 := [(7, .int 1), (6, .ref y17), (5, .int (nI i)), (0, .ref h), (1, .int (nI s)), (2, .int (nI v))]) dX16_isAsOne_2_201 (by decide) rfl ?_
                        refine g_iload hX (pc := 203) dX16_isAsOne_2_203 0 rfl ?_
                        refine g_if_eq hX (pc := 205) (tgt := 229) dX16_isAsOne_2_205 rfl (fun c27 => ?_) (fun c27 => ?_)
                        · exact absurd c27 (by decide)
                        · refine g_aload_n hX (pc := 208) dX16_isAsOne_2_208 3 rfl ?_
                          refine g_iload_n hX (pc := 209) dX16_isAsOne_2_209 4 rfl ?_
                          refine g_iconst hX (pc := 210) (v := 1) dX16_isAsOne_2_210 (by decide) ?_
                          refine g_iload hX (pc := 211) dX16_isAsOne_2_211 2 rfl ?_
                          refine g_ishl hX (pc := 213) dX16_isAsOne_2_213 ?_
                          refine g_ior hX (pc := 214) dX16_isAsOne_2_214 ?_
                          refine g_eqi (nI (s ||| 1 <<< i)) (sb_or s hs i (by omega)) ?_
                          refine g_aload hX (pc := 215) dX16_isAsOne_2_215 1 rfl ?_
                          refine g_iload_n hX (pc := 217) dX16_isAsOne_2_217 5 rfl ?_
                          refine g_callV hX (pc := 218) kX12_behind (mt_Request_behindM E l y17 r15 wq (nI v) (hm21) ((hl.2 r15 (List.mem_of_getElem? hgr15)).1)) q722 fcX12 (sp_in 0 rfl hm21) [0] rfl rfl rfl (Nat.le_of_ble_eq_true rfl) (Nat.le_of_ble_eq_true rfl) (Nat.le_of_ble_eq_true rfl) (by omega) (by omega) dX16_isAsOne_2_218 (fun v w1 hp => ?_)
                          obtain ⟨rfl, rfl⟩ := hp
                          refine g_nrm (cs1 := [wq, [(h, ob 14 [.ref ha, .ref tr])], wh, [(tr, lA (aC E 1) 400 g)]]) (st1 := [.int (rqBeh (rK r15) (rA r15) (rB r15) (nI v)), .int (nI (s ||| 1 <<< i)), .ref h]) rfl rfl ?_
                          refine g_eqi (nI (hBeh r15 v)) ((beh_ok (hl.2 r15 (List.mem_of_getElem? hgr15)).2 hv).1) ?_
                          refine g_callV hX (pc := 221) kX16_isAsOne_2 (mt_History_isAsOne_5 E l h ha tr g gl wh wq (s ||| 1 <<< i) (hBeh r15 v) hw (hl) (sb_lt s hs i (by omega)) ((beh_ok (hl.2 r15 (List.mem_of_getElem? hgr15)).2 hv).2) (uns_call d2 hb hd) (TJ.pre hJ (sb_gt hb))) q706 fcX16 (sp_mem (i := 1) rfl) [1, 2, 1, 0] rfl rfl rfl (Nat.le_of_ble_eq_true rfl) (Nat.le_of_ble_eq_true rfl) (Nat.le_of_ble_eq_true rfl) (by omega) (by omega) dX16_isAsOne_2_221 (fun v w1 hp => ?_)
                          obtain ⟨f128, h29, h30, rfl, rfl⟩ := hp
                          refine g_nrm (cs1 := [[(h, ob 14 [.ref ha, .ref tr])], [(tr, lA (aC E 1) 400 f128)], wh, wq]) (st1 := [.int (bI (LIN gl (s ||| 1 <<< i) (hBeh r15 v)))]) rfl rfl ?_
                          refine g_if_eq hX (pc := 224) (tgt := 229) dX16_isAsOne_2_224 rfl (fun c31_ => ?_) (fun c31_ => ?_)
                          · have c31 := bI_0.mp c31_
                            refine g_iinc hX (pc := 229) (v := nI (i + 1)) (lv1 := [(5, .int (nI (i + 1))), (7, .int 1), (6, .ref y17), (0, .ref h), (1, .int (nI s)), (2, .int (nI v))]) dX16_isAsOne_2_229 2 rfl (nI_1 _) (by decide) rfl ?_
                            refine g_goto hX (pc := 232) (tgt := 125) dX16_isAsOne_2_232 rfl ?_
                            refine g_lv (lv1 := [(5, .int (nI (i + 1))), (0, .ref h), (1, .int (nI s)), (2, .int (nI v))]) [0, 3, 4, 5] rfl ?_
                            refine g_widen (kc1 := 0) (ks1 := 0) (by omega) (by omega) ?_
                            exact ih2 (i + 1) f128 (by omega) (by omega) (TJ.call hJ (sb_gt hb) h29 (h30 c31)) (TS.tr hS (Nat.le_of_lt (sb_gt hb)) h29) (any_n hgr15 hany (Or.inr (Or.inr c31)))
                          · have c31 := mt bI_0.mpr c31_
                            refine g_iconst hX (pc := 227) (v := 1) dX16_isAsOne_2_227 (by decide) ?_
                            refine g_zret hX (pc := 228) hR rfl ?_ (by omega) (by omega) dX16_isAsOne_2_228
                            have hL := LIN_y hl.1 d2 hgr15 hb (can_y (by simpa using c24) (Or.inl c26)) (by simpa using c31)
                            rw [hL]
                            exact ⟨_, TS.tr hS (Nat.le_of_lt (sb_gt hb)) h29, fun z => absurd z (by decide), rfl, rfl⟩
                      · have c26 := z01n.mp c26_
                        refine g_aload hX (pc := 182) dX16_isAsOne_2_182 0 rfl ?_
                        refine g_iload_n hX (pc := 184) dX16_isAsOne_2_184 4 rfl ?_
                        refine g_callV hX (pc := 185) kX12_told (mt_Request_toldM E l y17 r15 wq (nI v) (hm21) ((hl.2 r15 (List.mem_of_getElem? hgr15)).1)) q718 fcX12 (sp_in 0 rfl hm21) [0] rfl rfl rfl (Nat.le_of_ble_eq_true rfl) (Nat.le_of_ble_eq_true rfl) (Nat.le_of_ble_eq_true rfl) (by omega) (by omega) dX16_isAsOne_2_185 (fun v w1 hp => ?_)
                        obtain ⟨rfl, rfl⟩ := hp
                        refine g_nrm (cs1 := [wq, [(h, ob 14 [.ref ha, .ref tr])], wh, [(tr, lA (aC E 1) 400 g)]]) (st1 := [.int (rqTold (rK r15) (rA r15) (nI v))]) rfl rfl ?_
                        refine g_aload hX (pc := 188) dX16_isAsOne_2_188 0 rfl ?_
                        refine g_getNm hX (pc := 190) fcX12 (sp_in 0 rfl hm21) 5 (by decide) q1005 rfl (v := .int (rRes r15)) rfl dX16_isAsOne_2_190 ?_
                        refine g_icmp_ne hX (pc := 193) (tgt := 200) dX16_isAsOne_2_193 rfl (fun c32 => ?_) (fun c32 => ?_)
                        · refine g_iconst hX (pc := 200) (v := 0) dX16_isAsOne_2_200 (by decide) ?_
                          refine g_istore hX (pc := 201) (lv1 := [(7, .int 0), (6, .ref y17), (5, .int (nI i)), (0, .ref h), (1, .int (nI s)), (2, .int (nI v))]) dX16_isAsOne_2_201 (by decide) rfl ?_
                          refine g_iload hX (pc := 203) dX16_isAsOne_2_203 0 rfl ?_
                          refine g_if_eq hX (pc := 205) (tgt := 229) dX16_isAsOne_2_205 rfl (fun c33 => ?_) (fun c33 => ?_)
                          · refine g_iinc hX (pc := 229) (v := nI (i + 1)) (lv1 := [(5, .int (nI (i + 1))), (7, .int 0), (6, .ref y17), (0, .ref h), (1, .int (nI s)), (2, .int (nI v))]) dX16_isAsOne_2_229 2 rfl (nI_1 _) (by decide) rfl ?_
                            refine g_goto hX (pc := 232) (tgt := 125) dX16_isAsOne_2_232 rfl ?_
                            refine g_pk [1, 2, 1, 0] rfl ?_
                            refine g_cs (cs1 := [[(h, ob 14 [.ref ha, .ref tr])], [(tr, lA (aC E 1) 400 g)], wh, wq]) rfl ?_
                            refine g_lv (lv1 := [(5, .int (nI (i + 1))), (0, .ref h), (1, .int (nI s)), (2, .int (nI v))]) [0, 3, 4, 5] rfl ?_
                            refine g_widen (kc1 := 0) (ks1 := 0) (by omega) (by omega) ?_
                            exact ih2 (i + 1) g (by omega) (by omega) (hJ) (hS) (any_n hgr15 hany (Or.inr (Or.inl (can_n2 c26 c32))))
                          · exact absurd c33 (by decide)
                        · refine g_iconst hX (pc := 196) (v := 1) dX16_isAsOne_2_196 (by decide) ?_
                          refine g_goto hX (pc := 197) (tgt := 201) dX16_isAsOne_2_197 rfl ?_
                          refine g_istore hX (pc := 201) (lv1 := [(7, .int 1), (6, .ref y17), (5, .int (nI i)), (0, .ref h), (1, .int (nI s)), (2, .int (nI v))]) dX16_isAsOne_2_201 (by decide) rfl ?_
                          refine g_iload hX (pc := 203) dX16_isAsOne_2_203 0 rfl ?_
                          refine g_if_eq hX (pc := 205) (tgt := 229) dX16_isAsOne_2_205 rfl (fun c34 => ?_) (fun c34 => ?_)
                          · exact absurd c34 (by decide)
                          · refine g_aload_n hX (pc := 208) dX16_isAsOne_2_208 3 rfl ?_
                            refine g_iload_n hX (pc := 209) dX16_isAsOne_2_209 4 rfl ?_
                            refine g_iconst hX (pc := 210) (v := 1) dX16_isAsOne_2_210 (by decide) ?_
                            refine g_iload hX (pc := 211) dX16_isAsOne_2_211 2 rfl ?_
                            refine g_ishl hX (pc := 213) dX16_isAsOne_2_213 ?_
                            refine g_ior hX (pc := 214) dX16_isAsOne_2_214 ?_
                            refine g_eqi (nI (s ||| 1 <<< i)) (sb_or s hs i (by omega)) ?_
                            refine g_aload hX (pc := 215) dX16_isAsOne_2_215 1 rfl ?_
                            refine g_iload_n hX (pc := 217) dX16_isAsOne_2_217 5 rfl ?_
                            refine g_callV hX (pc := 218) kX12_behind (mt_Request_behindM E l y17 r15 wq (nI v) (hm21) ((hl.2 r15 (List.mem_of_getElem? hgr15)).1)) q722 fcX12 (sp_in 0 rfl hm21) [0] rfl rfl rfl (Nat.le_of_ble_eq_true rfl) (Nat.le_of_ble_eq_true rfl) (Nat.le_of_ble_eq_true rfl) (by omega) (by omega) dX16_isAsOne_2_218 (fun v w1 hp => ?_)
                            obtain ⟨rfl, rfl⟩ := hp
                            refine g_nrm (cs1 := [wq, [(h, ob 14 [.ref ha, .ref tr])], wh, [(tr, lA (aC E 1) 400 g)]]) (st1 := [.int (rqBeh (rK r15) (rA r15) (rB r15) (nI v)), .int (nI (s ||| 1 <<< i)), .ref h]) rfl rfl ?_
                            refine g_eqi (nI (hBeh r15 v)) ((beh_ok (hl.2 r15 (List.mem_of_getElem? hgr15)).2 hv).1) ?_
                            refine g_callV hX (pc := 221) kX16_isAsOne_2 (mt_History_isAsOne_5 E l h ha tr g gl wh wq (s ||| 1 <<< i) (hBeh r15 v) hw (hl) (sb_lt s hs i (by omega)) ((beh_ok (hl.2 r15 (List.mem_of_getElem? hgr15)).2 hv).2) (uns_call d2 hb hd) (TJ.pre hJ (sb_gt hb))) q706 fcX16 (sp_mem (i := 1) rfl) [1, 2, 1, 0] rfl rfl rfl (Nat.le_of_ble_eq_true rfl) (Nat.le_of_ble_eq_true rfl) (Nat.le_of_ble_eq_true rfl) (by omega) (by omega) dX16_isAsOne_2_221 (fun v w1 hp => ?_)
                            obtain ⟨f135, h36, h37, rfl, rfl⟩ := hp
                            refine g_nrm (cs1 := [[(h, ob 14 [.ref ha, .ref tr])], [(tr, lA (aC E 1) 400 f135)], wh, wq]) (st1 := [.int (bI (LIN gl (s ||| 1 <<< i) (hBeh r15 v)))]) rfl rfl ?_
                            refine g_if_eq hX (pc := 224) (tgt := 229) dX16_isAsOne_2_224 rfl (fun c38_ => ?_) (fun c38_ => ?_)
                            · have c38 := bI_0.mp c38_
                              refine g_iinc hX (pc := 229) (v := nI (i + 1)) (lv1 := [(5, .int (nI (i + 1))), (7, .int 1), (6, .ref y17), (0, .ref h), (1, .int (nI s)), (2, .int (nI v))]) dX16_isAsOne_2_229 2 rfl (nI_1 _) (by decide) rfl ?_
                              refine g_goto hX (pc := 232) (tgt := 125) dX16_isAsOne_2_232 rfl ?_
                              refine g_lv (lv1 := [(5, .int (nI (i + 1))), (0, .ref h), (1, .int (nI s)), (2, .int (nI v))]) [0, 3, 4, 5] rfl ?_
                              refine g_widen (kc1 := 0) (ks1 := 0) (by omega) (by omega) ?_
                              exact ih2 (i + 1) f135 (by omega) (by omega) (TJ.call hJ (sb_gt hb) h36 (h37 c38)) (TS.tr hS (Nat.le_of_lt (sb_gt hb)) h36) (any_n hgr15 hany (Or.inr (Or.inr c38)))
                            · have c38 := mt bI_0.mpr c38_
                              refine g_iconst hX (pc := 227) (v := 1) dX16_isAsOne_2_227 (by decide) ?_
                              refine g_zret hX (pc := 228) hR rfl ?_ (by omega) (by omega) dX16_isAsOne_2_228
                              have hL := LIN_y hl.1 d2 hgr15 hb (can_y (by simpa using c24) (Or.inr c32)) (by simpa using c38)
                              rw [hL]
                              exact ⟨_, TS.tr hS (Nat.le_of_lt (sb_gt hb)) h36, fun z => absurd z (by decide), rfl, rfl⟩
            refine g_pk [1, 1, 0, 0] rfl ?_
            refine g_cs (cs1 := [[(h, ob 14 [.ref ha, .ref tr])], [(tr, lA (aC E 1) 400 f2)], wh, wq]) rfl ?_
            refine g_lv (lv1 := [(5, .int (nI 0)), (0, .ref h), (1, .int (nI s)), (2, .int (nI v))]) [0, 3, 4, 5] rfl ?_
            refine g_widen (kc1 := 0) (ks1 := 0) (by omega) (by omega) ?_
            exact lp13 ((List.length gl - 0) + 1) 0 f2 (Nat.lt_succ_self _) (Nat.zero_le _) (hJ0) (hS0) (rfl)
          · refine g_iconst hX (pc := 100) (v := 0) dX16_isAsOne_2_100 (by decide) ?_
            refine g_pk [1, 1, 0, 0] rfl ?_
            refine g_cs (cs1 := [[(h, ob 14 [.ref ha, .ref tr])], [(tr, lA (aC E 1) 400 f)], wh, wq]) rfl ?_
            refine g_zret hX (pc := 101) hR rfl ?_ (by omega) (by omega) dX16_isAsOne_2_101
            have hL := hT s v (Nat.le_refl _) hv (lcmp_1.mp c12)
            rw [hL]
            exact ⟨_, fun _ _ _ _ => rfl, fun _ => hT, rfl, rfl⟩
        · have c11 := mt bI_0.mpr c11_
          refine g_iconst hX (pc := 67) (v := 1) dX16_isAsOne_2_67 (by decide) ?_
          refine g_pk [1, 1, 0, 0] rfl ?_
          refine g_cs (cs1 := [[(h, ob 14 [.ref ha, .ref tr])], [(tr, lA (aC E 1) 400 f)], wh, wq]) rfl ?_
          refine g_zret hX (pc := 68) hR rfl ?_ (by omega) (by omega) dX16_isAsOne_2_68
          have hL := LIN_d hl.1 (v := v) (by rw [← d1]; simpa using c11)
          rw [hL]
          exact ⟨_, fun _ _ _ _ => rfl, fun z => absurd z (by decide), rfl, rfl⟩
      · have d1 : k < List.length gl := by
          have := mt (nI_leI (by omega) (by omega)).mpr c10
          omega
        obtain ⟨r39, hgr39⟩ := get_ex (l := gl) (i := k) (d1)
        obtain ⟨as40, y41, hA42, hl43, hk44, hm45⟩ := HL.at hw hgr39
        refine g_iload_n hX (pc := 19) dX16_isAsOne_2_19 1 rfl ?_
        refine g_iload_n hX (pc := 20) dX16_isAsOne_2_20 3 rfl ?_
        refine g_iload hX (pc := 21) dX16_isAsOne_2_21 0 rfl ?_
        refine g_ishr hX (pc := 23) dX16_isAsOne_2_23 ?_
        refine g_iconst hX (pc := 24) (v := 1) dX16_isAsOne_2_24 (by decide) ?_
        refine g_iand hX (pc := 25) dX16_isAsOne_2_25 ?_
        refine g_eqi (bI (Nat.testBit s k)) (sb_get s hs k (by omega)) ?_
        refine g_iconst hX (pc := 26) (v := 1) dX16_isAsOne_2_26 (by decide) ?_
        refine g_icmp_eq hX (pc := 27) (tgt := 50) dX16_isAsOne_2_27 rfl (fun c46 => ?_) (fun c46 => ?_)
        · refine g_iconst hX (pc := 50) (v := 1) dX16_isAsOne_2_50 (by decide) ?_
          refine g_goto hX (pc := 51) (tgt := 55) dX16_isAsOne_2_51 rfl ?_
          refine g_iand hX (pc := 55) dX16_isAsOne_2_55 ?_
          refine g_eqi (bI (dnUp gl s (k + 1))) (dn_1 (Or.inl (bI_1.mp c46))) ?_
          refine g_istore_n hX (pc := 56) (lv1 := [(3, .int (bI (dnUp gl s (k + 1)))), (4, .int (nI k)), (0, .ref h), (1, .int (nI s)), (2, .int (nI v))]) dX16_isAsOne_2_56 (by decide) rfl ?_
          refine g_iinc hX (pc := 57) (v := nI (k + 1)) (lv1 := [(4, .int (nI (k + 1))), (3, .int (bI (dnUp gl s (k + 1)))), (0, .ref h), (1, .int (nI s)), (2, .int (nI v))]) dX16_isAsOne_2_57 1 rfl (nI_1 _) (by decide) rfl ?_
          refine g_goto hX (pc := 60) (tgt := 5) dX16_isAsOne_2_60 rfl ?_
          refine g_pk [1, 1, 0, 0] rfl ?_
          refine g_cs (cs1 := [[(h, ob 14 [.ref ha, .ref tr])], [(tr, lA (aC E 1) 400 f)], wh, wq]) rfl ?_
          refine g_widen (kc1 := 0) (ks1 := 0) (by omega) (by omega) ?_
          exact ih1 (k + 1) (by omega) (by omega)
        · refine g_aload_n hX (pc := 30) dX16_isAsOne_2_30 2 rfl ?_
          refine g_get hX (pc := 31) fcX16 1 rfl 0 (by decide) q695 rfl (v := .ref ha) rfl dX16_isAsOne_2_31 ?_
          refine g_iload hX (pc := 34) dX16_isAsOne_2_34 0 rfl ?_
          refine g_callF hX (pc := 36) kfJ2_get (mt_AL_get E l ha as40 wh k y41 hA42 (hk44)) q270 fcJ2 (sp_in 0 rfl hm9) [0] rfl rfl rfl (Nat.le_of_ble_eq_true rfl) (Nat.le_of_ble_eq_true rfl) (Nat.le_of_ble_eq_true rfl) (by omega) (by omega) dX16_isAsOne_2_36 (fun v w1 hp => ?_)
          obtain ⟨rfl, rfl⟩ := hp
          refine g_nrm (cs1 := [wh, [(h, ob 14 [.ref ha, .ref tr])], [(tr, lA (aC E 1) 400 f)], wq]) (st1 := [.ref y41, .int (bI (dnUp gl s k))]) rfl rfl ?_
          refine g_cast hX (pc := 41) fcX12 (sp_in 3 rfl hm45) q271 dX16_isAsOne_2_41 ?_
          refine g_callV hX (pc := 44) kX12_isAnswered (mt_Request_isAnsweredM E l y41 r39 wq (hm45)) q710 fcX12 (sp_in 3 rfl hm45) [3] rfl rfl rfl (Nat.le_of_ble_eq_true rfl) (Nat.le_of_ble_eq_true rfl) (Nat.le_of_ble_eq_true rfl) (by omega) (by omega) dX16_isAsOne_2_44 (fun v w1 hp => ?_)
          obtain ⟨rfl, rfl⟩ := hp
          refine g_nrm (cs1 := [wq, wh, [(h, ob 14 [.ref ha, .ref tr])], [(tr, lA (aC E 1) 400 f)]]) (st1 := [.int (if rAns r39 = (-1) then 0 else 1), .int (bI (dnUp gl s k))]) rfl rfl ?_
          refine g_if_ne hX (pc := 47) (tgt := 54) dX16_isAsOne_2_47 rfl (fun c47_ => ?_) (fun c47_ => ?_)
          · have c47 := z01n.mp c47_
            refine g_iconst hX (pc := 54) (v := 0) dX16_isAsOne_2_54 (by decide) ?_
            refine g_iand hX (pc := 55) dX16_isAsOne_2_55 ?_
            refine g_eqi (bI (dnUp gl s (k + 1))) (dn_0 (fun z => c46 (bI_1.mpr z)) (by rw [hG_e hgr39]; exact c47)) ?_
            refine g_istore_n hX (pc := 56) (lv1 := [(3, .int (bI (dnUp gl s (k + 1)))), (4, .int (nI k)), (0, .ref h), (1, .int (nI s)), (2, .int (nI v))]) dX16_isAsOne_2_56 (by decide) rfl ?_
            refine g_iinc hX (pc := 57) (v := nI (k + 1)) (lv1 := [(4, .int (nI (k + 1))), (3, .int (bI (dnUp gl s (k + 1)))), (0, .ref h), (1, .int (nI s)), (2, .int (nI v))]) dX16_isAsOne_2_57 1 rfl (nI_1 _) (by decide) rfl ?_
            refine g_goto hX (pc := 60) (tgt := 5) dX16_isAsOne_2_60 rfl ?_
            refine g_pk [2, 2, 1, 0] rfl ?_
            refine g_cs (cs1 := [[(h, ob 14 [.ref ha, .ref tr])], [(tr, lA (aC E 1) 400 f)], wh, wq]) rfl ?_
            refine g_widen (kc1 := 0) (ks1 := 0) (by omega) (by omega) ?_
            exact ih1 (k + 1) (by omega) (by omega)
          · have c47 := z01.mp c47_
            refine g_iconst hX (pc := 50) (v := 1) dX16_isAsOne_2_50 (by decide) ?_
            refine g_goto hX (pc := 51) (tgt := 55) dX16_isAsOne_2_51 rfl ?_
            refine g_iand hX (pc := 55) dX16_isAsOne_2_55 ?_
            refine g_eqi (bI (dnUp gl s (k + 1))) (dn_1 (Or.inr (by rw [hG_e hgr39]; exact c47))) ?_
            refine g_istore_n hX (pc := 56) (lv1 := [(3, .int (bI (dnUp gl s (k + 1)))), (4, .int (nI k)), (0, .ref h), (1, .int (nI s)), (2, .int (nI v))]) dX16_isAsOne_2_56 (by decide) rfl ?_
            refine g_iinc hX (pc := 57) (v := nI (k + 1)) (lv1 := [(4, .int (nI (k + 1))), (3, .int (bI (dnUp gl s (k + 1)))), (0, .ref h), (1, .int (nI s)), (2, .int (nI v))]) dX16_isAsOne_2_57 1 rfl (nI_1 _) (by decide) rfl ?_
            refine g_goto hX (pc := 60) (tgt := 5) dX16_isAsOne_2_60 rfl ?_
            refine g_pk [2, 2, 1, 0] rfl ?_
            refine g_cs (cs1 := [[(h, ob 14 [.ref ha, .ref tr])], [(tr, lA (aC E 1) 400 f)], wh, wq]) rfl ?_
            refine g_widen (kc1 := 0) (ks1 := 0) (by omega) (by omega) ?_
            exact ih1 (k + 1) (by omega) (by omega)
  refine g_widen (kc1 := 0) (ks1 := 0) (by omega) (by omega) ?_
  exact lp7 ((List.length gl - 0) + 1) 0 (Nat.lt_succ_self _) (Nat.zero_le _)

set_option maxHeartbeats 4000000 in
theorem mt_History_isAsOne_7 (E : EE) (l : Launch) (h : Nat) (ha : Nat) (tr : Nat) (f : Nat → Int64) (gl : List PR) (wh : va_W) (wq : va_W) (s : Nat) (v : Nat) (hw : HL E ha gl wq wh) (hl : (hOKl gl)) (hs : (s < 256)) (hv : (v < 100)) (hd : (unsUp s (List.length gl) ≤ 7)) (hT : (TI gl f s)) : Mt E l yX16_isAsOne_2 cX16_isAsOne_2 8 (some .boolean) 12 0 0 279 [.ref h, .int (nI s), .int (nI v)] [[(h, ob 14 [.ref ha, .ref tr])], [(tr, lA (aC E 1) 400 f)], wh, wq] (fun (v_ : Option Value) (cs_ : List va_W) => ∃ (f1 : Nat → Int64), (TS f f1 s) ∧ (LIN gl s v = false → TI gl f1 s) ∧ v_ = some (.int (bI (LIN gl s v))) ∧ cs_ = [[(h, ob 14 [.ref ha, .ref tr])], [(tr, lA (aC E 1) 400 f1)], wh, wq]) := by
  have hl8 := hl.1
  have hat64 : hAt s v / 64 < 400 := by show (s * 100 + v) / 64 < 400; omega
  have hat31 : hAt s v < 2 ^ 31 := by show s * 100 + v < 2 ^ 31; omega
  refine Mt.of (by decide) (Nat.le_of_ble_eq_true rfl) (fun X hX hR hin => ?_)
  refine g_lv1 (lv1 := [(0, .ref h), (1, .int (nI s)), (2, .int (nI v))]) rfl ?_
  obtain ⟨as1, hA2, hal3, hok4, hins5, hera6⟩ := HL.al hw
  refine g_iconst hX (pc := 0) (v := 1) dX16_isAsOne_2_0 (by decide) ?_
  refine g_eqi (bI (dnUp gl s 0)) (rfl) ?_
  refine g_istore_n hX (pc := 1) (lv1 := [(3, .int (bI (dnUp gl s 0))), (0, .ref h), (1, .int (nI s)), (2, .int (nI v))]) dX16_isAsOne_2_1 (by decide) rfl ?_
  refine g_iconst hX (pc := 2) (v := 0) dX16_isAsOne_2_2 (by decide) ?_
  refine g_eqi (nI 0) (nI_0.symm) ?_
  refine g_istore hX (pc := 3) (lv1 := [(4, .int (nI 0)), (3, .int (bI (dnUp gl s 0))), (0, .ref h), (1, .int (nI s)), (2, .int (nI v))]) dX16_isAsOne_2_3 (by decide) rfl ?_
  have lp7 : ∀ (F1 : Nat) (k : Nat), List.length gl - k < F1 → (k ≤ List.length gl) → G E l X [[(h, ob 14 [.ref ha, .ref tr])], [(tr, lA (aC E 1) 400 f)], wh, wq] 0 0 5 [(4, .int (nI k)), (3, .int (bI (dnUp gl s k))), (0, .ref h), (1, .int (nI s)), (2, .int (nI v))] [] := by
    intro F1
    induction F1 with
    | zero =>
      intro k hF hk
      exact absurd hF (Nat.not_lt_zero _)
    | succ F1 ih1 =>
      intro k hF hk
      refine g_iload hX (pc := 5) dX16_isAsOne_2_5 0 rfl ?_
      refine g_aload_n hX (pc := 7) dX16_isAsOne_2_7 2 rfl ?_
      refine g_get hX (pc := 8) fcX16 0 rfl 0 (by decide) q695 rfl (v := .ref ha) rfl dX16_isAsOne_2_8 ?_
      obtain ⟨fs8, hm9⟩ := AL.head hA2
      refine g_callF hX (pc := 11) kfJ2_size (mt_AL_size E l ha as1 wh hA2) q268 fcJ2 (sp_in 2 rfl hm9) [2] rfl rfl rfl (Nat.le_of_ble_eq_true rfl) (Nat.le_of_ble_eq_true rfl) (Nat.le_of_ble_eq_true rfl) (by omega) (by omega) dX16_isAsOne_2_11 (fun v w1 hp => ?_)
      obtain ⟨rfl, rfl⟩ := hp
      refine g_nrm (cs1 := [wh, [(h, ob 14 [.ref ha, .ref tr])], [(tr, lA (aC E 1) 400 f)], wq]) (st1 := [.int (nI (List.length as1)), .int (nI k)]) rfl rfl ?_
      refine g_eqi (nI (List.length gl)) (by rw [hal3]) ?_
      refine g_icmp_ge hX (pc := 16) (tgt := 63) dX16_isAsOne_2_16 rfl (fun c10 => ?_) (fun c10 => ?_)
      · have d1 : k = List.length gl := by
          have := (nI_leI (by omega) (by omega)).mp c10
          omega
        refine g_iload_n hX (pc := 63) dX16_isAsOne_2_63 1 rfl ?_
        refine g_if_eq hX (pc := 64) (tgt := 69) dX16_isAsOne_2_64 rfl (fun c11_ => ?_) (fun c11_ => ?_)
        · have c11 := bI_0.mp c11_
          have hdn : dnUp gl s (List.length gl) = false := by rw [← d1]; exact c11
          refine g_iload_n hX (pc := 69) dX16_isAsOne_2_69 3 rfl ?_
          refine g_bipush hX (pc := 70) (v := 100) dX16_isAsOne_2_70 (by decide) ?_
          refine g_imul hX (pc := 72) dX16_isAsOne_2_72 ?_
          refine g_eqi (nI (s * 100)) (by rw [show (100 : Int32) = nI 100 from rfl, pk_mul]) ?_
          refine g_iload_n hX (pc := 73) dX16_isAsOne_2_73 4 rfl ?_
          refine g_iadd hX (pc := 74) dX16_isAsOne_2_74 ?_
          refine g_eqi (nI (hAt s v)) (nI_add _ _) ?_
          refine g_istore hX (pc := 75) (lv1 := [(4, .int (nI (hAt s v))), (3, .int (bI (dnUp gl s k))), (0, .ref h), (1, .int (nI s)), (2, .int (nI v))]) dX16_isAsOne_2_75 (by decide) rfl ?_
          refine g_aload_n hX (pc := 77) dX16_isAsOne_2_77 2 rfl ?_
          refine g_get hX (pc := 78) fcX16 1 rfl 1 (by decide) q696 rfl (v := .ref tr) rfl dX16_isAsOne_2_78 ?_
          refine g_iload hX (pc := 81) dX16_isAsOne_2_81 0 rfl ?_
          refine g_bipush hX (pc := 83) (v := 64) dX16_isAsOne_2_83 (by decide) ?_
          refine g_idiv hX (pc := 85) dX16_isAsOne_2_85 (by decide) ?_
          refine g_eqi (nI (hAt s v / 64)) (by rw [show (64 : Int32) = nI 64 from rfl, pk_div (by omega) (by omega) (by omega)]) ?_
          refine g_lald hX (pc := 86) (sp_mem (i := 2) rfl) (v := f (hAt s v / 64)) (vp_in_nI hat64 (by omega)) (by rw [nI_clamp (by omega)]) dX16_isAsOne_2_86 ?_
          refine g_iload hX (pc := 87) dX16_isAsOne_2_87 0 rfl ?_
          refine g_bipush hX (pc := 89) (v := 64) dX16_isAsOne_2_89 (by decide) ?_
          refine g_irem hX (pc := 91) dX16_isAsOne_2_91 (by decide) ?_
          refine g_eqi (nI (hAt s v % 64)) (by rw [show (64 : Int32) = nI 64 from rfl, pk_rem (by omega) (by omega) (by omega)]) ?_
          refine g_lshr hX (pc := 92) (v := (f (hAt s v / 64)) >>> (Int32.toInt64 (nI (hAt s v % 64)) &&& 63)) dX16_isAsOne_2_92 rfl ?_
          refine g_lconst hX (pc := 93) (v := 1) dX16_isAsOne_2_93 (by decide) ?_
          refine g_land hX (pc := 94) dX16_isAsOne_2_94 ?_
          refine g_lconst hX (pc := 95) (v := 1) dX16_isAsOne_2_95 (by decide) ?_
          refine g_lcmp hX (pc := 96) dX16_isAsOne_2_96 ?_
          refine g_if_ne hX (pc := 97) (tgt := 102) dX16_isAsOne_2_97 rfl (fun c12 => ?_) (fun c12 => ?_)
          · refine g_aload_n hX (pc := 102) dX16_isAsOne_2_102 2 rfl ?_
            refine g_get hX (pc := 103) fcX16 1 rfl 1 (by decide) q696 rfl (v := .ref tr) rfl dX16_isAsOne_2_103 ?_
            refine g_iload hX (pc := 106) dX16_isAsOne_2_106 0 rfl ?_
            refine g_bipush hX (pc := 108) (v := 64) dX16_isAsOne_2_108 (by decide) ?_
            refine g_idiv hX (pc := 110) dX16_isAsOne_2_110 (by decide) ?_
            refine g_eqi (nI (hAt s v / 64)) (by rw [show (64 : Int32) = nI 64 from rfl, pk_div (by omega) (by omega) (by omega)]) ?_
            refine g_dup2_11 hX (pc := 111) dX16_isAsOne_2_111 rfl rfl ?_
            refine g_lald hX (pc := 112) (sp_mem (i := 2) rfl) (v := f (hAt s v / 64)) (vp_in_nI hat64 (by omega)) (by rw [nI_clamp (by omega)]) dX16_isAsOne_2_112 ?_
            refine g_lconst hX (pc := 113) (v := 1) dX16_isAsOne_2_113 (by decide) ?_
            refine g_iload hX (pc := 114) dX16_isAsOne_2_114 0 rfl ?_
            refine g_bipush hX (pc := 116) (v := 64) dX16_isAsOne_2_116 (by decide) ?_
            refine g_irem hX (pc := 118) dX16_isAsOne_2_118 (by decide) ?_
            refine g_eqi (nI (hAt s v % 64)) (by rw [show (64 : Int32) = nI 64 from rfl, pk_rem (by omega) (by omega) (by omega)]) ?_
            refine g_lshl hX (pc := 119) (v := 1 <<< (Int32.toInt64 (nI (hAt s v % 64)) &&& 63)) dX16_isAsOne_2_119 rfl ?_
            refine g_lor hX (pc := 120) dX16_isAsOne_2_120 ?_
            refine g_last hX (pc := 121) (f1 := (vp_updL f (hAt s v / 64) (f (hAt s v / 64) ||| 1 <<< (Int32.toInt64 (nI (hAt s v % 64)) &&& 63)))) (cs1 := [wh, [(h, ob 14 [.ref ha, .ref tr])], [(tr, lA (aC E 1) 400 (vp_updL f (hAt s v / 64) (f (hAt s v / 64) ||| 1 <<< (Int32.toInt64 (nI (hAt s v % 64)) &&& 63))))], wq]) 2 rfl (vp_in_nI hat64 (by omega)) (by rw [nI_clamp (by omega)]) rfl dX16_isAsOne_2_121 ?_
            obtain ⟨hJ0, hS0⟩ := TJ.mark hT hv
            generalize (vp_updL f (hAt s v / 64) (f (hAt s v / 64) ||| 1 <<< (Int32.toInt64 (nI (hAt s v % 64)) &&& 63))) = f2 at hJ0 hS0 ⊢
            refine g_iconst hX (pc := 122) (v := 0) dX16_isAsOne_2_122 (by decide) ?_
            refine g_eqi (nI 0) (nI_0.symm) ?_
            refine g_istore hX (pc := 123) (lv1 := [(5, .int (nI 0)), (4, .int (nI (hAt s v))), (3, .int (bI (dnUp gl s k))), (0, .ref h), (1, .int (nI s)), (2, .int (nI v))]) dX16_isAsOne_2_123 (by decide) rfl ?_
            have lp13 : ∀ (F2 : Nat) (i : Nat) (g : Nat → Int64), List.length gl - i < F2 → (i ≤ List.length gl) → (TJ gl g s v) → (TS f g s) → (anyUp gl s v i = false) → G E l X [[(h, ob 14 [.ref ha, .ref tr])], [(tr, lA (aC E 1) 400 g)], wh, wq] 0 0 125 [(5, .int (nI i)), (0, .ref h), (1, .int (nI s)), (2, .int (nI v))] [] := by
              intro F2
              induction F2 with
              | zero =>
                intro i g hF hi hJ hS hany
                exact absurd hF (Nat.not_lt_zero _)
              | succ F2 ih2 =>
                intro i g hF hi hJ hS hany
                refine g_iload hX (pc := 125) dX16_isAsOne_2_125 0 rfl ?_
                refine g_aload_n hX (pc := 127) dX16_isAsOne_2_127 1 rfl ?_
                refine g_get hX (pc := 128) fcX16 0 rfl 0 (by decide) q695 rfl (v := .ref ha) rfl dX16_isAsOne_2_128 ?_
                refine g_callF hX (pc := 131) kfJ2_size (mt_AL_size E l ha as1 wh hA2) q268 fcJ2 (sp_in 2 rfl hm9) [2] rfl rfl rfl (Nat.le_of_ble_eq_true rfl) (Nat.le_of_ble_eq_true rfl) (Nat.le_of_ble_eq_true rfl) (by omega) (by omega) dX16_isAsOne_2_131 (fun v w1 hp => ?_)
                obtain ⟨rfl, rfl⟩ := hp
                refine g_nrm (cs1 := [wh, [(h, ob 14 [.ref ha, .ref tr])], [(tr, lA (aC E 1) 400 g)], wq]) (st1 := [.int (nI (List.length as1)), .int (nI i)]) rfl rfl ?_
                refine g_eqi (nI (List.length gl)) (by rw [hal3]) ?_
                refine g_icmp_ge hX (pc := 136) (tgt := 235) dX16_isAsOne_2_136 rfl (fun c14 => ?_) (fun c14 => ?_)
                · have d2 : i = List.length gl := by
                    have := (nI_leI (by omega) (by omega)).mp c14
                    omega
                  have hany2 : anyUp gl s v (List.length gl) = false := by rw [← d2]; exact hany
                  refine g_iconst hX (pc := 235) (v := 0) dX16_isAsOne_2_235 (by decide) ?_
                  refine g_pk [1, 1, 0, 0] rfl ?_
                  refine g_cs (cs1 := [[(h, ob 14 [.ref ha, .ref tr])], [(tr, lA (aC E 1) 400 g)], wh, wq]) rfl ?_
                  refine g_zret hX (pc := 236) hR rfl ?_ (by omega) (by omega) dX16_isAsOne_2_236
                  have hL := LIN_n hl.1 (v := v) hdn hany2
                  rw [hL]
                  exact ⟨_, hS, fun _ => hJ.done hL, rfl, rfl⟩
                · have d2 : i < List.length gl := by
                    have := mt (nI_leI (by omega) (by omega)).mpr c14
                    omega
                  obtain ⟨r15, hgr15⟩ := get_ex (l := gl) (i := i) (d2)
                  obtain ⟨as16, y17, hA18, hl19, hk20, hm21⟩ := HL.at hw hgr15
                  refine g_aload_n hX (pc := 139) dX16_isAsOne_2_139 1 rfl ?_
                  refine g_get hX (pc := 140) fcX16 1 rfl 0 (by decide) q695 rfl (v := .ref ha) rfl dX16_isAsOne_2_140 ?_
                  refine g_iload hX (pc := 143) dX16_isAsOne_2_143 0 rfl ?_
                  refine g_callF hX (pc := 145) kfJ2_get (mt_AL_get E l ha as16 wh i y17 hA18 (hk20)) q270 fcJ2 (sp_in 0 rfl hm9) [0] rfl rfl rfl (Nat.le_of_ble_eq_true rfl) (Nat.le_of_ble_eq_true rfl) (Nat.le_of_ble_eq_true rfl) (by omega) (by omega) dX16_isAsOne_2_145 (fun v w1 hp => ?_)
                  obtain ⟨rfl, rfl⟩ := hp
                  refine g_nrm (cs1 := [wh, [(h, ob 14 [.ref ha, .ref tr])], [(tr, lA (aC E 1) 400 g)], wq]) (st1 := [.ref y17]) rfl rfl ?_
                  refine g_cast hX (pc := 150) fcX12 (sp_in 3 rfl hm21) q271 dX16_isAsOne_2_150 ?_
                  refine g_astore hX (pc := 153) (lv1 := [(6, .ref y17), (5, .int (nI i)), (0, .ref h), (1, .int (nI s)), (2, .int (nI v))]) dX16_isAsOne_2_153 (by decide) rfl ?_
                  refine g_iload_n hX (pc := 155) dX16_isAsOne_2_155 3 rfl ?_
                  refine g_iload hX (pc := 156) dX16_isAsOne_2_156 1 rfl ?_
                  refine g_ishr hX (pc := 158) dX16_isAsOne_2_158 ?_
                  refine g_iconst hX (pc := 159) (v := 1) dX16_isAsOne_2_159 (by decide) ?_
                  refine g_iand hX (pc := 160) dX16_isAsOne_2_160 ?_
                  refine g_eqi (bI (Nat.testBit s i)) (sb_get s hs i (by omega)) ?_
                  refine g_if_ne hX (pc := 161) (tgt := 200) dX16_isAsOne_2_161 rfl (fun c22_ => ?_) (fun c22_ => ?_)
                  · have c22 := mt bI_0.mpr c22_
                    refine g_iconst hX (pc := 200) (v := 0) dX16_isAsOne_2_200 (by decide) ?_
                    refine g_istore hX (pc := 201) (lv1 := [(7, .int 0), (6, .ref y17), (5, .int (nI i)), (0, .ref h), (1, .int (nI s)), (2, .int (nI v))]) dX16_isAsOne_2_201 (by decide) rfl ?_
                    refine g_iload hX (pc := 203) dX16_isAsOne_2_203 0 rfl ?_
                    refine g_if_eq hX (pc := 205) (tgt := 229) dX16_isAsOne_2_205 rfl (fun c23 => ?_) (fun c23 => ?_)
                    · refine g_iinc hX (pc := 229) (v := nI (i + 1)) (lv1 := [(5, .int (nI (i + 1))), (7, .int 0), (6, .ref y17), (0, .ref h), (1, .int (nI s)), (2, .int (nI v))]) dX16_isAsOne_2_229 2 rfl (nI_1 _) (by decide) rfl ?_
                      refine g_goto hX (pc := 232) (tgt := 125) dX16_isAsOne_2_232 rfl ?_
                      refine g_pk [1, 1, 0, 0] rfl ?_
                      refine g_cs (cs1 := [[(h, ob 14 [.ref ha, .ref tr])], [(tr, lA (aC E 1) 400 g)], wh, wq]) rfl ?_
                      refine g_lv (lv1 := [(5, .int (nI (i + 1))), (0, .ref h), (1, .int (nI s)), (2, .int (nI v))]) [0, 3, 4, 5] rfl ?_
                      refine g_widen (kc1 := 0) (ks1 := 0) (by omega) (by omega) ?_
                      exact ih2 (i + 1) g (by omega) (by omega) (hJ) (hS) (any_n hgr15 hany (Or.inl (by simpa using c22)))
                    · exact absurd c23 (by decide)
                  · have c22 := bI_0.mp c22_
                    have hb : Nat.testBit s i = false := c22
                    refine g_aload_n hX (pc := 164) dX16_isAsOne_2_164 2 rfl ?_
                    refine g_iload_n hX (pc := 165) dX16_isAsOne_2_165 3 rfl ?_
                    refine g_aload hX (pc := 166) dX16_isAsOne_2_166 0 rfl ?_
                    refine g_callV hX (pc := 168) kX16_isNext (mt_History_isNext E l h ha tr gl wh wq s y17 r15 hw (hm21) (hl.1) (hs)) q714 fcX16 (sp_mem (i := 1) rfl) [1, 0, 1] rfl rfl rfl (Nat.le_of_ble_eq_true rfl) (Nat.le_of_ble_eq_true rfl) (Nat.le_of_ble_eq_true rfl) (by omega) (by omega) dX16_isAsOne_2_168 (fun v w1 hp => ?_)
                    obtain ⟨rfl, rfl⟩ := hp
                    refine g_nrm (cs1 := [[(h, ob 14 [.ref ha, .ref tr])], wh, wq, [(tr, lA (aC E 1) 400 g)]]) (st1 := [.int (bI (nxUp gl s r15 (List.length gl)))]) rfl rfl ?_
                    refine g_if_eq hX (pc := 171) (tgt := 200) dX16_isAsOne_2_171 rfl (fun c24_ => ?_) (fun c24_ => ?_)
                    · have c24 := bI_0.mp c24_
                      refine g_iconst hX (pc := 200) (v := 0) dX16_isAsOne_2_200 (by decide) ?_
                      refine g_istore hX (pc := 201) (lv1 := [(7, .int 0), (6, .ref y17), (5, .int (nI i)), (0, .ref h), (1, .int (nI s)), (2, .int (nI v))]) dX16_isAsOne_2_201 (by decide) rfl ?_
                      refine g_iload hX (pc := 203) dX16_isAsOne_2_203 0 rfl ?_
                      refine g_if_eq hX (pc := 205) (tgt := 229) dX16_isAsOne_2_205 rfl (fun c25 => ?_) (fun c25 => ?_)
                      · refine g_iinc hX (pc := 229) (v := nI (i + 1)) (lv1 := [(5, .int (nI (i + 1))), (7, .int 0), (6, .ref y17), (0, .ref h), (1, .int (nI s)), (2, .int (nI v))]) dX16_isAsOne_2_229 2 rfl (nI_1 _) (by decide) rfl ?_
                        refine g_goto hX (pc := 232) (tgt := 125) dX16_isAsOne_2_232 rfl ?_
                        refine g_pk [0, 2, 0, 0] rfl ?_
                        refine g_cs (cs1 := [[(h, ob 14 [.ref ha, .ref tr])], [(tr, lA (aC E 1) 400 g)], wh, wq]) rfl ?_
                        refine g_lv (lv1 := [(5, .int (nI (i + 1))), (0, .ref h), (1, .int (nI s)), (2, .int (nI v))]) [0, 3, 4, 5] rfl ?_
                        refine g_widen (kc1 := 0) (ks1 := 0) (by omega) (by omega) ?_
                        exact ih2 (i + 1) g (by omega) (by omega) (hJ) (hS) (any_n hgr15 hany (Or.inr (Or.inl (can_n1 c24))))
                      · exact absurd c25 (by decide)
                    · have c24 := mt bI_0.mpr c24_
                      refine g_aload hX (pc := 174) dX16_isAsOne_2_174 0 rfl ?_
                      refine g_callV hX (pc := 176) kX12_isAnswered (mt_Request_isAnsweredM E l y17 r15 wq (hm21)) q710 fcX12 (sp_in 2 rfl hm21) [2] rfl rfl rfl (Nat.le_of_ble_eq_true rfl) (Nat.le_of_ble_eq_true rfl) (Nat.le_of_ble_eq_true rfl) (by omega) (by omega) dX16_isAsOne_2_176 (fun v w1 hp => ?_)
                      obtain ⟨rfl, rfl⟩ := hp
                      refine g_nrm (cs1 := [wq, [(h, ob 14 [.ref ha, .ref tr])], wh, [(tr, lA (aC E 1) 400 g)]]) (st1 := [.int (if rAns r15 = (-1) then 0 else 1)]) rfl rfl ?_
                      refine g_if_eq hX (pc := 179) (tgt := 196) dX16_isAsOne_2_179 rfl (fun c26_ => ?_) (fun c26_ => ?_)
                      · have c26 := z01.mp c26_
                        refine g_iconst hX (pc := 196) (v := 1) dX16_isAsOne_2_196 (by decide) ?_
                        refine g_goto hX (pc := 197) (tgt := 201) dX16_isAsOne_2_197 rfl ?_
                        refine g_istore hX (pc := 201) (lv1 := [(7, .int 1), (6, .ref y17), (5, .int (nI i)), (0, .ref h), (1, .int (nI s)), (2, .int (nI v))]) dX16_isAsOne_2_201 (by decide) rfl ?_
                        refine g_iload hX (pc := 203) dX16_isAsOne_2_203 0 rfl ?_
                        refine g_if_eq hX (pc := 205) (tgt := 229) dX16_isAsOne_2_205 rfl (fun c27 => ?_) (fun c27 => ?_)
                        · exact absurd c27 (by decide)
                        · refine g_aload_n hX (pc := 208) dX16_isAsOne_2_208 3 rfl ?_
                          refine g_iload_n hX (pc := 209) dX16_isAsOne_2_209 4 rfl ?_
                          refine g_iconst hX (pc := 210) (v := 1) dX16_isAsOne_2_210 (by decide) ?_
                          refine g_iload hX (pc := 211) dX16_isAsOne_2_211 2 rfl ?_
                          refine g_ishl hX (pc := 213) dX16_isAsOne_2_213 ?_
                          refine g_ior hX (pc := 214) dX16_isAsOne_2_214 ?_
                          refine g_eqi (nI (s ||| 1 <<< i)) (sb_or s hs i (by omega)) ?_
                          refine g_aload hX (pc := 215) dX16_isAsOne_2_215 1 rfl ?_
                          refine g_iload_n hX (pc := 217) dX16_isAsOne_2_217 5 rfl ?_
                          refine g_callV hX (pc := 218) kX12_behind (mt_Request_behindM E l y17 r15 wq (nI v) (hm21) ((hl.2 r15 (List.mem_of_getElem? hgr15)).1)) q722 fcX12 (sp_in 0 rfl hm21) [0] rfl rfl rfl (Nat.le_of_ble_eq_true rfl) (Nat.le_of_ble_eq_true rfl) (Nat.le_of_ble_eq_true rfl) (by omega) (by omega) dX16_isAsOne_2_218 (fun v w1 hp => ?_)
                          obtain ⟨rfl, rfl⟩ := hp
                          refine g_nrm (cs1 := [wq, [(h, ob 14 [.ref ha, .ref tr])], wh, [(tr, lA (aC E 1) 400 g)]]) (st1 := [.int (rqBeh (rK r15) (rA r15) (rB r15) (nI v)), .int (nI (s ||| 1 <<< i)), .ref h]) rfl rfl ?_
                          refine g_eqi (nI (hBeh r15 v)) ((beh_ok (hl.2 r15 (List.mem_of_getElem? hgr15)).2 hv).1) ?_
                          refine g_callV hX (pc := 221) kX16_isAsOne_2 (mt_History_isAsOne_6 E l h ha tr g gl wh wq (s ||| 1 <<< i) (hBeh r15 v) hw (hl) (sb_lt s hs i (by omega)) ((beh_ok (hl.2 r15 (List.mem_of_getElem? hgr15)).2 hv).2) (uns_call d2 hb hd) (TJ.pre hJ (sb_gt hb))) q706 fcX16 (sp_mem (i := 1) rfl) [1, 2, 1, 0] rfl rfl rfl (Nat.le_of_ble_eq_true rfl) (Nat.le_of_ble_eq_true rfl) (Nat.le_of_ble_eq_true rfl) (by omega) (by omega) dX16_isAsOne_2_221 (fun v w1 hp => ?_)
                          obtain ⟨f128, h29, h30, rfl, rfl⟩ := hp
                          refine g_nrm (cs1 := [[(h, ob 14 [.ref ha, .ref tr])], [(tr, lA (aC E 1) 400 f128)], wh, wq]) (st1 := [.int (bI (LIN gl (s ||| 1 <<< i) (hBeh r15 v)))]) rfl rfl ?_
                          refine g_if_eq hX (pc := 224) (tgt := 229) dX16_isAsOne_2_224 rfl (fun c31_ => ?_) (fun c31_ => ?_)
                          · have c31 := bI_0.mp c31_
                            refine g_iinc hX (pc := 229) (v := nI (i + 1)) (lv1 := [(5, .int (nI (i + 1))), (7, .int 1), (6, .ref y17), (0, .ref h), (1, .int (nI s)), (2, .int (nI v))]) dX16_isAsOne_2_229 2 rfl (nI_1 _) (by decide) rfl ?_
                            refine g_goto hX (pc := 232) (tgt := 125) dX16_isAsOne_2_232 rfl ?_
                            refine g_lv (lv1 := [(5, .int (nI (i + 1))), (0, .ref h), (1, .int (nI s)), (2, .int (nI v))]) [0, 3, 4, 5] rfl ?_
                            refine g_widen (kc1 := 0) (ks1 := 0) (by omega) (by omega) ?_
                            exact ih2 (i + 1) f128 (by omega) (by omega) (TJ.call hJ (sb_gt hb) h29 (h30 c31)) (TS.tr hS (Nat.le_of_lt (sb_gt hb)) h29) (any_n hgr15 hany (Or.inr (Or.inr c31)))
                          · have c31 := mt bI_0.mpr c31_
                            refine g_iconst hX (pc := 227) (v := 1) dX16_isAsOne_2_227 (by decide) ?_
                            refine g_zret hX (pc := 228) hR rfl ?_ (by omega) (by omega) dX16_isAsOne_2_228
                            have hL := LIN_y hl.1 d2 hgr15 hb (can_y (by simpa using c24) (Or.inl c26)) (by simpa using c31)
                            rw [hL]
                            exact ⟨_, TS.tr hS (Nat.le_of_lt (sb_gt hb)) h29, fun z => absurd z (by decide), rfl, rfl⟩
                      · have c26 := z01n.mp c26_
                        refine g_aload hX (pc := 182) dX16_isAsOne_2_182 0 rfl ?_
                        refine g_iload_n hX (pc := 184) dX16_isAsOne_2_184 4 rfl ?_
                        refine g_callV hX (pc := 185) kX12_told (mt_Request_toldM E l y17 r15 wq (nI v) (hm21) ((hl.2 r15 (List.mem_of_getElem? hgr15)).1)) q718 fcX12 (sp_in 0 rfl hm21) [0] rfl rfl rfl (Nat.le_of_ble_eq_true rfl) (Nat.le_of_ble_eq_true rfl) (Nat.le_of_ble_eq_true rfl) (by omega) (by omega) dX16_isAsOne_2_185 (fun v w1 hp => ?_)
                        obtain ⟨rfl, rfl⟩ := hp
                        refine g_nrm (cs1 := [wq, [(h, ob 14 [.ref ha, .ref tr])], wh, [(tr, lA (aC E 1) 400 g)]]) (st1 := [.int (rqTold (rK r15) (rA r15) (nI v))]) rfl rfl ?_
                        refine g_aload hX (pc := 188) dX16_isAsOne_2_188 0 rfl ?_
                        refine g_getNm hX (pc := 190) fcX12 (sp_in 0 rfl hm21) 5 (by decide) q1005 rfl (v := .int (rRes r15)) rfl dX16_isAsOne_2_190 ?_
                        refine g_icmp_ne hX (pc := 193) (tgt := 200) dX16_isAsOne_2_193 rfl (fun c32 => ?_) (fun c32 => ?_)
                        · refine g_iconst hX (pc := 200) (v := 0) dX16_isAsOne_2_200 (by decide) ?_
                          refine g_istore hX (pc := 201) (lv1 := [(7, .int 0), (6, .ref y17), (5, .int (nI i)), (0, .ref h), (1, .int (nI s)), (2, .int (nI v))]) dX16_isAsOne_2_201 (by decide) rfl ?_
                          refine g_iload hX (pc := 203) dX16_isAsOne_2_203 0 rfl ?_
                          refine g_if_eq hX (pc := 205) (tgt := 229) dX16_isAsOne_2_205 rfl (fun c33 => ?_) (fun c33 => ?_)
                          · refine g_iinc hX (pc := 229) (v := nI (i + 1)) (lv1 := [(5, .int (nI (i + 1))), (7, .int 0), (6, .ref y17), (0, .ref h), (1, .int (nI s)), (2, .int (nI v))]) dX16_isAsOne_2_229 2 rfl (nI_1 _) (by decide) rfl ?_
                            refine g_goto hX (pc := 232) (tgt := 125) dX16_isAsOne_2_232 rfl ?_
                            refine g_pk [1, 2, 1, 0] rfl ?_
                            refine g_cs (cs1 := [[(h, ob 14 [.ref ha, .ref tr])], [(tr, lA (aC E 1) 400 g)], wh, wq]) rfl ?_
                            refine g_lv (lv1 := [(5, .int (nI (i + 1))), (0, .ref h), (1, .int (nI s)), (2, .int (nI v))]) [0, 3, 4, 5] rfl ?_
                            refine g_widen (kc1 := 0) (ks1 := 0) (by omega) (by omega) ?_
                            exact ih2 (i + 1) g (by omega) (by omega) (hJ) (hS) (any_n hgr15 hany (Or.inr (Or.inl (can_n2 c26 c32))))
                          · exact absurd c33 (by decide)
                        · refine g_iconst hX (pc := 196) (v := 1) dX16_isAsOne_2_196 (by decide) ?_
                          refine g_goto hX (pc := 197) (tgt := 201) dX16_isAsOne_2_197 rfl ?_
                          refine g_istore hX (pc := 201) (lv1 := [(7, .int 1), (6, .ref y17), (5, .int (nI i)), (0, .ref h), (1, .int (nI s)), (2, .int (nI v))]) dX16_isAsOne_2_201 (by decide) rfl ?_
                          refine g_iload hX (pc := 203) dX16_isAsOne_2_203 0 rfl ?_
                          refine g_if_eq hX (pc := 205) (tgt := 229) dX16_isAsOne_2_205 rfl (fun c34 => ?_) (fun c34 => ?_)
                          · exact absurd c34 (by decide)
                          · refine g_aload_n hX (pc := 208) dX16_isAsOne_2_208 3 rfl ?_
                            refine g_iload_n hX (pc := 209) dX16_isAsOne_2_209 4 rfl ?_
                            refine g_iconst hX (pc := 210) (v := 1) dX16_isAsOne_2_210 (by decide) ?_
                            refine g_iload hX (pc := 211) dX16_isAsOne_2_211 2 rfl ?_
                            refine g_ishl hX (pc := 213) dX16_isAsOne_2_213 ?_
                            refine g_ior hX (pc := 214) dX16_isAsOne_2_214 ?_
                            refine g_eqi (nI (s ||| 1 <<< i)) (sb_or s hs i (by omega)) ?_
                            refine g_aload hX (pc := 215) dX16_isAsOne_2_215 1 rfl ?_
                            refine g_iload_n hX (pc := 217) dX16_isAsOne_2_217 5 rfl ?_
                            refine g_callV hX (pc := 218) kX12_behind (mt_Request_behindM E l y17 r15 wq (nI v) (hm21) ((hl.2 r15 (List.mem_of_getElem? hgr15)).1)) q722 fcX12 (sp_in 0 rfl hm21) [0] rfl rfl rfl (Nat.le_of_ble_eq_true rfl) (Nat.le_of_ble_eq_true rfl) (Nat.le_of_ble_eq_true rfl) (by omega) (by omega) dX16_isAsOne_2_218 (fun v w1 hp => ?_)
                            obtain ⟨rfl, rfl⟩ := hp
                            refine g_nrm (cs1 := [wq, [(h, ob 14 [.ref ha, .ref tr])], wh, [(tr, lA (aC E 1) 400 g)]]) (st1 := [.int (rqBeh (rK r15) (rA r15) (rB r15) (nI v)), .int (nI (s ||| 1 <<< i)), .ref h]) rfl rfl ?_
                            refine g_eqi (nI (hBeh r15 v)) ((beh_ok (hl.2 r15 (List.mem_of_getElem? hgr15)).2 hv).1) ?_
                            refine g_callV hX (pc := 221) kX16_isAsOne_2 (mt_History_isAsOne_6 E l h ha tr g gl wh wq (s ||| 1 <<< i) (hBeh r15 v) hw (hl) (sb_lt s hs i (by omega)) ((beh_ok (hl.2 r15 (List.mem_of_getElem? hgr15)).2 hv).2) (uns_call d2 hb hd) (TJ.pre hJ (sb_gt hb))) q706 fcX16 (sp_mem (i := 1) rfl) [1, 2, 1, 0] rfl rfl rfl (Nat.le_of_ble_eq_true rfl) (Nat.le_of_ble_eq_true rfl) (Nat.le_of_ble_eq_true rfl) (by omega) (by omega) dX16_isAsOne_2_221 (fun v w1 hp => ?_)
                            obtain ⟨f135, h36, h37, rfl, rfl⟩ := hp
                            refine g_nrm (cs1 := [[(h, ob 14 [.ref ha, .ref tr])], [(tr, lA (aC E 1) 400 f135)], wh, wq]) (st1 := [.int (bI (LIN gl (s ||| 1 <<< i) (hBeh r15 v)))]) rfl rfl ?_
                            refine g_if_eq hX (pc := 224) (tgt := 229) dX16_isAsOne_2_224 rfl (fun c38_ => ?_) (fun c38_ => ?_)
                            · have c38 := bI_0.mp c38_
                              refine g_iinc hX (pc := 229) (v := nI (i + 1)) (lv1 := [(5, .int (nI (i + 1))), (7, .int 1), (6, .ref y17), (0, .ref h), (1, .int (nI s)), (2, .int (nI v))]) dX16_isAsOne_2_229 2 rfl (nI_1 _) (by decide) rfl ?_
                              refine g_goto hX (pc := 232) (tgt := 125) dX16_isAsOne_2_232 rfl ?_
                              refine g_lv (lv1 := [(5, .int (nI (i + 1))), (0, .ref h), (1, .int (nI s)), (2, .int (nI v))]) [0, 3, 4, 5] rfl ?_
                              refine g_widen (kc1 := 0) (ks1 := 0) (by omega) (by omega) ?_
                              exact ih2 (i + 1) f135 (by omega) (by omega) (TJ.call hJ (sb_gt hb) h36 (h37 c38)) (TS.tr hS (Nat.le_of_lt (sb_gt hb)) h36) (any_n hgr15 hany (Or.inr (Or.inr c38)))
                            · have c38 := mt bI_0.mpr c38_
                              refine g_iconst hX (pc := 227) (v := 1) dX16_isAsOne_2_227 (by decide) ?_
                              refine g_zret hX (pc := 228) hR rfl ?_ (by omega) (by omega) dX16_isAsOne_2_228
                              have hL := LIN_y hl.1 d2 hgr15 hb (can_y (by simpa using c24) (Or.inr c32)) (by simpa using c38)
                              rw [hL]
                              exact ⟨_, TS.tr hS (Nat.le_of_lt (sb_gt hb)) h36, fun z => absurd z (by decide), rfl, rfl⟩
            refine g_pk [1, 1, 0, 0] rfl ?_
            refine g_cs (cs1 := [[(h, ob 14 [.ref ha, .ref tr])], [(tr, lA (aC E 1) 400 f2)], wh, wq]) rfl ?_
            refine g_lv (lv1 := [(5, .int (nI 0)), (0, .ref h), (1, .int (nI s)), (2, .int (nI v))]) [0, 3, 4, 5] rfl ?_
            refine g_widen (kc1 := 0) (ks1 := 0) (by omega) (by omega) ?_
            exact lp13 ((List.length gl - 0) + 1) 0 f2 (Nat.lt_succ_self _) (Nat.zero_le _) (hJ0) (hS0) (rfl)
          · refine g_iconst hX (pc := 100) (v := 0) dX16_isAsOne_2_100 (by decide) ?_
            refine g_pk [1, 1, 0, 0] rfl ?_
            refine g_cs (cs1 := [[(h, ob 14 [.ref ha, .ref tr])], [(tr, lA (aC E 1) 400 f)], wh, wq]) rfl ?_
            refine g_zret hX (pc := 101) hR rfl ?_ (by omega) (by omega) dX16_isAsOne_2_101
            have hL := hT s v (Nat.le_refl _) hv (lcmp_1.mp c12)
            rw [hL]
            exact ⟨_, fun _ _ _ _ => rfl, fun _ => hT, rfl, rfl⟩
        · have c11 := mt bI_0.mpr c11_
          refine g_iconst hX (pc := 67) (v := 1) dX16_isAsOne_2_67 (by decide) ?_
          refine g_pk [1, 1, 0, 0] rfl ?_
          refine g_cs (cs1 := [[(h, ob 14 [.ref ha, .ref tr])], [(tr, lA (aC E 1) 400 f)], wh, wq]) rfl ?_
          refine g_zret hX (pc := 68) hR rfl ?_ (by omega) (by omega) dX16_isAsOne_2_68
          have hL := LIN_d hl.1 (v := v) (by rw [← d1]; simpa using c11)
          rw [hL]
          exact ⟨_, fun _ _ _ _ => rfl, fun z => absurd z (by decide), rfl, rfl⟩
      · have d1 : k < List.length gl := by
          have := mt (nI_leI (by omega) (by omega)).mpr c10
          omega
        obtain ⟨r39, hgr39⟩ := get_ex (l := gl) (i := k) (d1)
        obtain ⟨as40, y41, hA42, hl43, hk44, hm45⟩ := HL.at hw hgr39
        refine g_iload_n hX (pc := 19) dX16_isAsOne_2_19 1 rfl ?_
        refine g_iload_n hX (pc := 20) dX16_isAsOne_2_20 3 rfl ?_
        refine g_iload hX (pc := 21) dX16_isAsOne_2_21 0 rfl ?_
        refine g_ishr hX (pc := 23) dX16_isAsOne_2_23 ?_
        refine g_iconst hX (pc := 24) (v := 1) dX16_isAsOne_2_24 (by decide) ?_
        refine g_iand hX (pc := 25) dX16_isAsOne_2_25 ?_
        refine g_eqi (bI (Nat.testBit s k)) (sb_get s hs k (by omega)) ?_
        refine g_iconst hX (pc := 26) (v := 1) dX16_isAsOne_2_26 (by decide) ?_
        refine g_icmp_eq hX (pc := 27) (tgt := 50) dX16_isAsOne_2_27 rfl (fun c46 => ?_) (fun c46 => ?_)
        · refine g_iconst hX (pc := 50) (v := 1) dX16_isAsOne_2_50 (by decide) ?_
          refine g_goto hX (pc := 51) (tgt := 55) dX16_isAsOne_2_51 rfl ?_
          refine g_iand hX (pc := 55) dX16_isAsOne_2_55 ?_
          refine g_eqi (bI (dnUp gl s (k + 1))) (dn_1 (Or.inl (bI_1.mp c46))) ?_
          refine g_istore_n hX (pc := 56) (lv1 := [(3, .int (bI (dnUp gl s (k + 1)))), (4, .int (nI k)), (0, .ref h), (1, .int (nI s)), (2, .int (nI v))]) dX16_isAsOne_2_56 (by decide) rfl ?_
          refine g_iinc hX (pc := 57) (v := nI (k + 1)) (lv1 := [(4, .int (nI (k + 1))), (3, .int (bI (dnUp gl s (k + 1)))), (0, .ref h), (1, .int (nI s)), (2, .int (nI v))]) dX16_isAsOne_2_57 1 rfl (nI_1 _) (by decide) rfl ?_
          refine g_goto hX (pc := 60) (tgt := 5) dX16_isAsOne_2_60 rfl ?_
          refine g_pk [1, 1, 0, 0] rfl ?_
          refine g_cs (cs1 := [[(h, ob 14 [.ref ha, .ref tr])], [(tr, lA (aC E 1) 400 f)], wh, wq]) rfl ?_
          refine g_widen (kc1 := 0) (ks1 := 0) (by omega) (by omega) ?_
          exact ih1 (k + 1) (by omega) (by omega)
        · refine g_aload_n hX (pc := 30) dX16_isAsOne_2_30 2 rfl ?_
          refine g_get hX (pc := 31) fcX16 1 rfl 0 (by decide) q695 rfl (v := .ref ha) rfl dX16_isAsOne_2_31 ?_
          refine g_iload hX (pc := 34) dX16_isAsOne_2_34 0 rfl ?_
          refine g_callF hX (pc := 36) kfJ2_get (mt_AL_get E l ha as40 wh k y41 hA42 (hk44)) q270 fcJ2 (sp_in 0 rfl hm9) [0] rfl rfl rfl (Nat.le_of_ble_eq_true rfl) (Nat.le_of_ble_eq_true rfl) (Nat.le_of_ble_eq_true rfl) (by omega) (by omega) dX16_isAsOne_2_36 (fun v w1 hp => ?_)
          obtain ⟨rfl, rfl⟩ := hp
          refine g_nrm (cs1 := [wh, [(h, ob 14 [.ref ha, .ref tr])], [(tr, lA (aC E 1) 400 f)], wq]) (st1 := [.ref y41, .int (bI (dnUp gl s k))]) rfl rfl ?_
          refine g_cast hX (pc := 41) fcX12 (sp_in 3 rfl hm45) q271 dX16_isAsOne_2_41 ?_
          refine g_callV hX (pc := 44) kX12_isAnswered (mt_Request_isAnsweredM E l y41 r39 wq (hm45)) q710 fcX12 (sp_in 3 rfl hm45) [3] rfl rfl rfl (Nat.le_of_ble_eq_true rfl) (Nat.le_of_ble_eq_true rfl) (Nat.le_of_ble_eq_true rfl) (by omega) (by omega) dX16_isAsOne_2_44 (fun v w1 hp => ?_)
          obtain ⟨rfl, rfl⟩ := hp
          refine g_nrm (cs1 := [wq, wh, [(h, ob 14 [.ref ha, .ref tr])], [(tr, lA (aC E 1) 400 f)]]) (st1 := [.int (if rAns r39 = (-1) then 0 else 1), .int (bI (dnUp gl s k))]) rfl rfl ?_
          refine g_if_ne hX (pc := 47) (tgt := 54) dX16_isAsOne_2_47 rfl (fun c47_ => ?_) (fun c47_ => ?_)
          · have c47 := z01n.mp c47_
            refine g_iconst hX (pc := 54) (v := 0) dX16_isAsOne_2_54 (by decide) ?_
            refine g_iand hX (pc := 55) dX16_isAsOne_2_55 ?_
            refine g_eqi (bI (dnUp gl s (k + 1))) (dn_0 (fun z => c46 (bI_1.mpr z)) (by rw [hG_e hgr39]; exact c47)) ?_
            refine g_istore_n hX (pc := 56) (lv1 := [(3, .int (bI (dnUp gl s (k + 1)))), (4, .int (nI k)), (0, .ref h), (1, .int (nI s)), (2, .int (nI v))]) dX16_isAsOne_2_56 (by decide) rfl ?_
            refine g_iinc hX (pc := 57) (v := nI (k + 1)) (lv1 := [(4, .int (nI (k + 1))), (3, .int (bI (dnUp gl s (k + 1)))), (0, .ref h), (1, .int (nI s)), (2, .int (nI v))]) dX16_isAsOne_2_57 1 rfl (nI_1 _) (by decide) rfl ?_
            refine g_goto hX (pc := 60) (tgt := 5) dX16_isAsOne_2_60 rfl ?_
            refine g_pk [2, 2, 1, 0] rfl ?_
            refine g_cs (cs1 := [[(h, ob 14 [.ref ha, .ref tr])], [(tr, lA (aC E 1) 400 f)], wh, wq]) rfl ?_
            refine g_widen (kc1 := 0) (ks1 := 0) (by omega) (by omega) ?_
            exact ih1 (k + 1) (by omega) (by omega)
          · have c47 := z01.mp c47_
            refine g_iconst hX (pc := 50) (v := 1) dX16_isAsOne_2_50 (by decide) ?_
            refine g_goto hX (pc := 51) (tgt := 55) dX16_isAsOne_2_51 rfl ?_
            refine g_iand hX (pc := 55) dX16_isAsOne_2_55 ?_
            refine g_eqi (bI (dnUp gl s (k + 1))) (dn_1 (Or.inr (by rw [hG_e hgr39]; exact c47))) ?_
            refine g_istore_n hX (pc := 56) (lv1 := [(3, .int (bI (dnUp gl s (k + 1)))), (4, .int (nI k)), (0, .ref h), (1, .int (nI s)), (2, .int (nI v))]) dX16_isAsOne_2_56 (by decide) rfl ?_
            refine g_iinc hX (pc := 57) (v := nI (k + 1)) (lv1 := [(4, .int (nI (k + 1))), (3, .int (bI (dnUp gl s (k + 1)))), (0, .ref h), (1, .int (nI s)), (2, .int (nI v))]) dX16_isAsOne_2_57 1 rfl (nI_1 _) (by decide) rfl ?_
            refine g_goto hX (pc := 60) (tgt := 5) dX16_isAsOne_2_60 rfl ?_
            refine g_pk [2, 2, 1, 0] rfl ?_
            refine g_cs (cs1 := [[(h, ob 14 [.ref ha, .ref tr])], [(tr, lA (aC E 1) 400 f)], wh, wq]) rfl ?_
            refine g_widen (kc1 := 0) (ks1 := 0) (by omega) (by omega) ?_
            exact ih1 (k + 1) (by omega) (by omega)
  refine g_widen (kc1 := 0) (ks1 := 0) (by omega) (by omega) ?_
  exact lp7 ((List.length gl - 0) + 1) 0 (Nat.lt_succ_self _) (Nat.zero_le _)

set_option maxHeartbeats 4000000 in
theorem mt_History_isAsOne_8 (E : EE) (l : Launch) (h : Nat) (ha : Nat) (tr : Nat) (f : Nat → Int64) (gl : List PR) (wh : va_W) (wq : va_W) (s : Nat) (v : Nat) (hw : HL E ha gl wq wh) (hl : (hOKl gl)) (hs : (s < 256)) (hv : (v < 100)) (hd : (unsUp s (List.length gl) ≤ 8)) (hT : (TI gl f s)) : Mt E l yX16_isAsOne_2 cX16_isAsOne_2 8 (some .boolean) 13 0 0 306 [.ref h, .int (nI s), .int (nI v)] [[(h, ob 14 [.ref ha, .ref tr])], [(tr, lA (aC E 1) 400 f)], wh, wq] (fun (v_ : Option Value) (cs_ : List va_W) => ∃ (f1 : Nat → Int64), (TS f f1 s) ∧ (LIN gl s v = false → TI gl f1 s) ∧ v_ = some (.int (bI (LIN gl s v))) ∧ cs_ = [[(h, ob 14 [.ref ha, .ref tr])], [(tr, lA (aC E 1) 400 f1)], wh, wq]) := by
  have hl8 := hl.1
  have hat64 : hAt s v / 64 < 400 := by show (s * 100 + v) / 64 < 400; omega
  have hat31 : hAt s v < 2 ^ 31 := by show s * 100 + v < 2 ^ 31; omega
  refine Mt.of (by decide) (Nat.le_of_ble_eq_true rfl) (fun X hX hR hin => ?_)
  refine g_lv1 (lv1 := [(0, .ref h), (1, .int (nI s)), (2, .int (nI v))]) rfl ?_
  obtain ⟨as1, hA2, hal3, hok4, hins5, hera6⟩ := HL.al hw
  refine g_iconst hX (pc := 0) (v := 1) dX16_isAsOne_2_0 (by decide) ?_
  refine g_eqi (bI (dnUp gl s 0)) (rfl) ?_
  refine g_istore_n hX (pc := 1) (lv1 := [(3, .int (bI (dnUp gl s 0))), (0, .ref h), (1, .int (nI s)), (2, .int (nI v))]) dX16_isAsOne_2_1 (by decide) rfl ?_
  refine g_iconst hX (pc := 2) (v := 0) dX16_isAsOne_2_2 (by decide) ?_
  refine g_eqi (nI 0) (nI_0.symm) ?_
  refine g_istore hX (pc := 3) (lv1 := [(4, .int (nI 0)), (3, .int (bI (dnUp gl s 0))), (0, .ref h), (1, .int (nI s)), (2, .int (nI v))]) dX16_isAsOne_2_3 (by decide) rfl ?_
  have lp7 : ∀ (F1 : Nat) (k : Nat), List.length gl - k < F1 → (k ≤ List.length gl) → G E l X [[(h, ob 14 [.ref ha, .ref tr])], [(tr, lA (aC E 1) 400 f)], wh, wq] 0 0 5 [(4, .int (nI k)), (3, .int (bI (dnUp gl s k))), (0, .ref h), (1, .int (nI s)), (2, .int (nI v))] [] := by
    intro F1
    induction F1 with
    | zero =>
      intro k hF hk
      exact absurd hF (Nat.not_lt_zero _)
    | succ F1 ih1 =>
      intro k hF hk
      refine g_iload hX (pc := 5) dX16_isAsOne_2_5 0 rfl ?_
      refine g_aload_n hX (pc := 7) dX16_isAsOne_2_7 2 rfl ?_
      refine g_get hX (pc := 8) fcX16 0 rfl 0 (by decide) q695 rfl (v := .ref ha) rfl dX16_isAsOne_2_8 ?_
      obtain ⟨fs8, hm9⟩ := AL.head hA2
      refine g_callF hX (pc := 11) kfJ2_size (mt_AL_size E l ha as1 wh hA2) q268 fcJ2 (sp_in 2 rfl hm9) [2] rfl rfl rfl (Nat.le_of_ble_eq_true rfl) (Nat.le_of_ble_eq_true rfl) (Nat.le_of_ble_eq_true rfl) (by omega) (by omega) dX16_isAsOne_2_11 (fun v w1 hp => ?_)
      obtain ⟨rfl, rfl⟩ := hp
      refine g_nrm (cs1 := [wh, [(h, ob 14 [.ref ha, .ref tr])], [(tr, lA (aC E 1) 400 f)], wq]) (st1 := [.int (nI (List.length as1)), .int (nI k)]) rfl rfl ?_
      refine g_eqi (nI (List.length gl)) (by rw [hal3]) ?_
      refine g_icmp_ge hX (pc := 16) (tgt := 63) dX16_isAsOne_2_16 rfl (fun c10 => ?_) (fun c10 => ?_)
      · have d1 : k = List.length gl := by
          have := (nI_leI (by omega) (by omega)).mp c10
          omega
        refine g_iload_n hX (pc := 63) dX16_isAsOne_2_63 1 rfl ?_
        refine g_if_eq hX (pc := 64) (tgt := 69) dX16_isAsOne_2_64 rfl (fun c11_ => ?_) (fun c11_ => ?_)
        · have c11 := bI_0.mp c11_
          have hdn : dnUp gl s (List.length gl) = false := by rw [← d1]; exact c11
          refine g_iload_n hX (pc := 69) dX16_isAsOne_2_69 3 rfl ?_
          refine g_bipush hX (pc := 70) (v := 100) dX16_isAsOne_2_70 (by decide) ?_
          refine g_imul hX (pc := 72) dX16_isAsOne_2_72 ?_
          refine g_eqi (nI (s * 100)) (by rw [show (100 : Int32) = nI 100 from rfl, pk_mul]) ?_
          refine g_iload_n hX (pc := 73) dX16_isAsOne_2_73 4 rfl ?_
          refine g_iadd hX (pc := 74) dX16_isAsOne_2_74 ?_
          refine g_eqi (nI (hAt s v)) (nI_add _ _) ?_
          refine g_istore hX (pc := 75) (lv1 := [(4, .int (nI (hAt s v))), (3, .int (bI (dnUp gl s k))), (0, .ref h), (1, .int (nI s)), (2, .int (nI v))]) dX16_isAsOne_2_75 (by decide) rfl ?_
          refine g_aload_n hX (pc := 77) dX16_isAsOne_2_77 2 rfl ?_
          refine g_get hX (pc := 78) fcX16 1 rfl 1 (by decide) q696 rfl (v := .ref tr) rfl dX16_isAsOne_2_78 ?_
          refine g_iload hX (pc := 81) dX16_isAsOne_2_81 0 rfl ?_
          refine g_bipush hX (pc := 83) (v := 64) dX16_isAsOne_2_83 (by decide) ?_
          refine g_idiv hX (pc := 85) dX16_isAsOne_2_85 (by decide) ?_
          refine g_eqi (nI (hAt s v / 64)) (by rw [show (64 : Int32) = nI 64 from rfl, pk_div (by omega) (by omega) (by omega)]) ?_
          refine g_lald hX (pc := 86) (sp_mem (i := 2) rfl) (v := f (hAt s v / 64)) (vp_in_nI hat64 (by omega)) (by rw [nI_clamp (by omega)]) dX16_isAsOne_2_86 ?_
          refine g_iload hX (pc := 87) dX16_isAsOne_2_87 0 rfl ?_
          refine g_bipush hX (pc := 89) (v := 64) dX16_isAsOne_2_89 (by decide) ?_
          refine g_irem hX (pc := 91) dX16_isAsOne_2_91 (by decide) ?_
          refine g_eqi (nI (hAt s v % 64)) (by rw [show (64 : Int32) = nI 64 from rfl, pk_rem (by omega) (by omega) (by omega)]) ?_
          refine g_lshr hX (pc := 92) (v := (f (hAt s v / 64)) >>> (Int32.toInt64 (nI (hAt s v % 64)) &&& 63)) dX16_isAsOne_2_92 rfl ?_
          refine g_lconst hX (pc := 93) (v := 1) dX16_isAsOne_2_93 (by decide) ?_
          refine g_land hX (pc := 94) dX16_isAsOne_2_94 ?_
          refine g_lconst hX (pc := 95) (v := 1) dX16_isAsOne_2_95 (by decide) ?_
          refine g_lcmp hX (pc := 96) dX16_isAsOne_2_96 ?_
          refine g_if_ne hX (pc := 97) (tgt := 102) dX16_isAsOne_2_97 rfl (fun c12 => ?_) (fun c12 => ?_)
          · refine g_aload_n hX (pc := 102) dX16_isAsOne_2_102 2 rfl ?_
            refine g_get hX (pc := 103) fcX16 1 rfl 1 (by decide) q696 rfl (v := .ref tr) rfl dX16_isAsOne_2_103 ?_
            refine g_iload hX (pc := 106) dX16_isAsOne_2_106 0 rfl ?_
            refine g_bipush hX (pc := 108) (v := 64) dX16_isAsOne_2_108 (by decide) ?_
            refine g_idiv hX (pc := 110) dX16_isAsOne_2_110 (by decide) ?_
            refine g_eqi (nI (hAt s v / 64)) (by rw [show (64 : Int32) = nI 64 from rfl, pk_div (by omega) (by omega) (by omega)]) ?_
            refine g_dup2_11 hX (pc := 111) dX16_isAsOne_2_111 rfl rfl ?_
            refine g_lald hX (pc := 112) (sp_mem (i := 2) rfl) (v := f (hAt s v / 64)) (vp_in_nI hat64 (by omega)) (by rw [nI_clamp (by omega)]) dX16_isAsOne_2_112 ?_
            refine g_lconst hX (pc := 113) (v := 1) dX16_isAsOne_2_113 (by decide) ?_
            refine g_iload hX (pc := 114) dX16_isAsOne_2_114 0 rfl ?_
            refine g_bipush hX (pc := 116) (v := 64) dX16_isAsOne_2_116 (by decide) ?_
            refine g_irem hX (pc := 118) dX16_isAsOne_2_118 (by decide) ?_
            refine g_eqi (nI (hAt s v % 64)) (by rw [show (64 : Int32) = nI 64 from rfl, pk_rem (by omega) (by omega) (by omega)]) ?_
            refine g_lshl hX (pc := 119) (v := 1 <<< (Int32.toInt64 (nI (hAt s v % 64)) &&& 63)) dX16_isAsOne_2_119 rfl ?_
            refine g_lor hX (pc := 120) dX16_isAsOne_2_120 ?_
            refine g_last hX (pc := 121) (f1 := (vp_updL f (hAt s v / 64) (f (hAt s v / 64) ||| 1 <<< (Int32.toInt64 (nI (hAt s v % 64)) &&& 63)))) (cs1 := [wh, [(h, ob 14 [.ref ha, .ref tr])], [(tr, lA (aC E 1) 400 (vp_updL f (hAt s v / 64) (f (hAt s v / 64) ||| 1 <<< (Int32.toInt64 (nI (hAt s v % 64)) &&& 63))))], wq]) 2 rfl (vp_in_nI hat64 (by omega)) (by rw [nI_clamp (by omega)]) rfl dX16_isAsOne_2_121 ?_
            obtain ⟨hJ0, hS0⟩ := TJ.mark hT hv
            generalize (vp_updL f (hAt s v / 64) (f (hAt s v / 64) ||| 1 <<< (Int32.toInt64 (nI (hAt s v % 64)) &&& 63))) = f2 at hJ0 hS0 ⊢
            refine g_iconst hX (pc := 122) (v := 0) dX16_isAsOne_2_122 (by decide) ?_
            refine g_eqi (nI 0) (nI_0.symm) ?_
            refine g_istore hX (pc := 123) (lv1 := [(5, .int (nI 0)), (4, .int (nI (hAt s v))), (3, .int (bI (dnUp gl s k))), (0, .ref h), (1, .int (nI s)), (2, .int (nI v))]) dX16_isAsOne_2_123 (by decide) rfl ?_
            have lp13 : ∀ (F2 : Nat) (i : Nat) (g : Nat → Int64), List.length gl - i < F2 → (i ≤ List.length gl) → (TJ gl g s v) → (TS f g s) → (anyUp gl s v i = false) → G E l X [[(h, ob 14 [.ref ha, .ref tr])], [(tr, lA (aC E 1) 400 g)], wh, wq] 0 0 125 [(5, .int (nI i)), (0, .ref h), (1, .int (nI s)), (2, .int (nI v))] [] := by
              intro F2
              induction F2 with
              | zero =>
                intro i g hF hi hJ hS hany
                exact absurd hF (Nat.not_lt_zero _)
              | succ F2 ih2 =>
                intro i g hF hi hJ hS hany
                refine g_iload hX (pc := 125) dX16_isAsOne_2_125 0 rfl ?_
                refine g_aload_n hX (pc := 127) dX16_isAsOne_2_127 1 rfl ?_
                refine g_get hX (pc := 128) fcX16 0 rfl 0 (by decide) q695 rfl (v := .ref ha) rfl dX16_isAsOne_2_128 ?_
                refine g_callF hX (pc := 131) kfJ2_size (mt_AL_size E l ha as1 wh hA2) q268 fcJ2 (sp_in 2 rfl hm9) [2] rfl rfl rfl (Nat.le_of_ble_eq_true rfl) (Nat.le_of_ble_eq_true rfl) (Nat.le_of_ble_eq_true rfl) (by omega) (by omega) dX16_isAsOne_2_131 (fun v w1 hp => ?_)
                obtain ⟨rfl, rfl⟩ := hp
                refine g_nrm (cs1 := [wh, [(h, ob 14 [.ref ha, .ref tr])], [(tr, lA (aC E 1) 400 g)], wq]) (st1 := [.int (nI (List.length as1)), .int (nI i)]) rfl rfl ?_
                refine g_eqi (nI (List.length gl)) (by rw [hal3]) ?_
                refine g_icmp_ge hX (pc := 136) (tgt := 235) dX16_isAsOne_2_136 rfl (fun c14 => ?_) (fun c14 => ?_)
                · have d2 : i = List.length gl := by
                    have := (nI_leI (by omega) (by omega)).mp c14
                    omega
                  have hany2 : anyUp gl s v (List.length gl) = false := by rw [← d2]; exact hany
                  refine g_iconst hX (pc := 235) (v := 0) dX16_isAsOne_2_235 (by decide) ?_
                  refine g_pk [1, 1, 0, 0] rfl ?_
                  refine g_cs (cs1 := [[(h, ob 14 [.ref ha, .ref tr])], [(tr, lA (aC E 1) 400 g)], wh, wq]) rfl ?_
                  refine g_zret hX (pc := 236) hR rfl ?_ (by omega) (by omega) dX16_isAsOne_2_236
                  have hL := LIN_n hl.1 (v := v) hdn hany2
                  rw [hL]
                  exact ⟨_, hS, fun _ => hJ.done hL, rfl, rfl⟩
                · have d2 : i < List.length gl := by
                    have := mt (nI_leI (by omega) (by omega)).mpr c14
                    omega
                  obtain ⟨r15, hgr15⟩ := get_ex (l := gl) (i := i) (d2)
                  obtain ⟨as16, y17, hA18, hl19, hk20, hm21⟩ := HL.at hw hgr15
                  refine g_aload_n hX (pc := 139) dX16_isAsOne_2_139 1 rfl ?_
                  refine g_get hX (pc := 140) fcX16 1 rfl 0 (by decide) q695 rfl (v := .ref ha) rfl dX16_isAsOne_2_140 ?_
                  refine g_iload hX (pc := 143) dX16_isAsOne_2_143 0 rfl ?_
                  refine g_callF hX (pc := 145) kfJ2_get (mt_AL_get E l ha as16 wh i y17 hA18 (hk20)) q270 fcJ2 (sp_in 0 rfl hm9) [0] rfl rfl rfl (Nat.le_of_ble_eq_true rfl) (Nat.le_of_ble_eq_true rfl) (Nat.le_of_ble_eq_true rfl) (by omega) (by omega) dX16_isAsOne_2_145 (fun v w1 hp => ?_)
                  obtain ⟨rfl, rfl⟩ := hp
                  refine g_nrm (cs1 := [wh, [(h, ob 14 [.ref ha, .ref tr])], [(tr, lA (aC E 1) 400 g)], wq]) (st1 := [.ref y17]) rfl rfl ?_
                  refine g_cast hX (pc := 150) fcX12 (sp_in 3 rfl hm21) q271 dX16_isAsOne_2_150 ?_
                  refine g_astore hX (pc := 153) (lv1 := [(6, .ref y17), (5, .int (nI i)), (0, .ref h), (1, .int (nI s)), (2, .int (nI v))]) dX16_isAsOne_2_153 (by decide) rfl ?_
                  refine g_iload_n hX (pc := 155) dX16_isAsOne_2_155 3 rfl ?_
                  refine g_iload hX (pc := 156) dX16_isAsOne_2_156 1 rfl ?_
                  refine g_ishr hX (pc := 158) dX16_isAsOne_2_158 ?_
                  refine g_iconst hX (pc := 159) (v := 1) dX16_isAsOne_2_159 (by decide) ?_
                  refine g_iand hX (pc := 160) dX16_isAsOne_2_160 ?_
                  refine g_eqi (bI (Nat.testBit s i)) (sb_get s hs i (by omega)) ?_
                  refine g_if_ne hX (pc := 161) (tgt := 200) dX16_isAsOne_2_161 rfl (fun c22_ => ?_) (fun c22_ => ?_)
                  · have c22 := mt bI_0.mpr c22_
                    refine g_iconst hX (pc := 200) (v := 0) dX16_isAsOne_2_200 (by decide) ?_
                    refine g_istore hX (pc := 201) (lv1 := [(7, .int 0), (6, .ref y17), (5, .int (nI i)), (0, .ref h), (1, .int (nI s)), (2, .int (nI v))]) dX16_isAsOne_2_201 (by decide) rfl ?_
                    refine g_iload hX (pc := 203) dX16_isAsOne_2_203 0 rfl ?_
                    refine g_if_eq hX (pc := 205) (tgt := 229) dX16_isAsOne_2_205 rfl (fun c23 => ?_) (fun c23 => ?_)
                    · refine g_iinc hX (pc := 229) (v := nI (i + 1)) (lv1 := [(5, .int (nI (i + 1))), (7, .int 0), (6, .ref y17), (0, .ref h), (1, .int (nI s)), (2, .int (nI v))]) dX16_isAsOne_2_229 2 rfl (nI_1 _) (by decide) rfl ?_
                      refine g_goto hX (pc := 232) (tgt := 125) dX16_isAsOne_2_232 rfl ?_
                      refine g_pk [1, 1, 0, 0] rfl ?_
                      refine g_cs (cs1 := [[(h, ob 14 [.ref ha, .ref tr])], [(tr, lA (aC E 1) 400 g)], wh, wq]) rfl ?_
                      refine g_lv (lv1 := [(5, .int (nI (i + 1))), (0, .ref h), (1, .int (nI s)), (2, .int (nI v))]) [0, 3, 4, 5] rfl ?_
                      refine g_widen (kc1 := 0) (ks1 := 0) (by omega) (by omega) ?_
                      exact ih2 (i + 1) g (by omega) (by omega) (hJ) (hS) (any_n hgr15 hany (Or.inl (by simpa using c22)))
                    · exact absurd c23 (by decide)
                  · have c22 := bI_0.mp c22_
                    have hb : Nat.testBit s i = false := c22
                    refine g_aload_n hX (pc := 164) dX16_isAsOne_2_164 2 rfl ?_
                    refine g_iload_n hX (pc := 165) dX16_isAsOne_2_165 3 rfl ?_
                    refine g_aload hX (pc := 166) dX16_isAsOne_2_166 0 rfl ?_
                    refine g_callV hX (pc := 168) kX16_isNext (mt_History_isNext E l h ha tr gl wh wq s y17 r15 hw (hm21) (hl.1) (hs)) q714 fcX16 (sp_mem (i := 1) rfl) [1, 0, 1] rfl rfl rfl (Nat.le_of_ble_eq_true rfl) (Nat.le_of_ble_eq_true rfl) (Nat.le_of_ble_eq_true rfl) (by omega) (by omega) dX16_isAsOne_2_168 (fun v w1 hp => ?_)
                    obtain ⟨rfl, rfl⟩ := hp
                    refine g_nrm (cs1 := [[(h, ob 14 [.ref ha, .ref tr])], wh, wq, [(tr, lA (aC E 1) 400 g)]]) (st1 := [.int (bI (nxUp gl s r15 (List.length gl)))]) rfl rfl ?_
                    refine g_if_eq hX (pc := 171) (tgt := 200) dX16_isAsOne_2_171 rfl (fun c24_ => ?_) (fun c24_ => ?_)
                    · have c24 := bI_0.mp c24_
                      refine g_iconst hX (pc := 200) (v := 0) dX16_isAsOne_2_200 (by decide) ?_
                      refine g_istore hX (pc := 201) (lv1 := [(7, .int 0), (6, .ref y17), (5, .int (nI i)), (0, .ref h), (1, .int (nI s)), (2, .int (nI v))]) dX16_isAsOne_2_201 (by decide) rfl ?_
                      refine g_iload hX (pc := 203) dX16_isAsOne_2_203 0 rfl ?_
                      refine g_if_eq hX (pc := 205) (tgt := 229) dX16_isAsOne_2_205 rfl (fun c25 => ?_) (fun c25 => ?_)
                      · refine g_iinc hX (pc := 229) (v := nI (i + 1)) (lv1 := [(5, .int (nI (i + 1))), (7, .int 0), (6, .ref y17), (0, .ref h), (1, .int (nI s)), (2, .int (nI v))]) dX16_isAsOne_2_229 2 rfl (nI_1 _) (by decide) rfl ?_
                        refine g_goto hX (pc := 232) (tgt := 125) dX16_isAsOne_2_232 rfl ?_
                        refine g_pk [0, 2, 0, 0] rfl ?_
                        refine g_cs (cs1 := [[(h, ob 14 [.ref ha, .ref tr])], [(tr, lA (aC E 1) 400 g)], wh, wq]) rfl ?_
                        refine g_lv (lv1 := [(5, .int (nI (i + 1))), (0, .ref h), (1, .int (nI s)), (2, .int (nI v))]) [0, 3, 4, 5] rfl ?_
                        refine g_widen (kc1 := 0) (ks1 := 0) (by omega) (by omega) ?_
                        exact ih2 (i + 1) g (by omega) (by omega) (hJ) (hS) (any_n hgr15 hany (Or.inr (Or.inl (can_n1 c24))))
                      · exact absurd c25 (by decide)
                    · have c24 := mt bI_0.mpr c24_
                      refine g_aload hX (pc := 174) dX16_isAsOne_2_174 0 rfl ?_
                      refine g_callV hX (pc := 176) kX12_isAnswered (mt_Request_isAnsweredM E l y17 r15 wq (hm21)) q710 fcX12 (sp_in 2 rfl hm21) [2] rfl rfl rfl (Nat.le_of_ble_eq_true rfl) (Nat.le_of_ble_eq_true rfl) (Nat.le_of_ble_eq_true rfl) (by omega) (by omega) dX16_isAsOne_2_176 (fun v w1 hp => ?_)
                      obtain ⟨rfl, rfl⟩ := hp
                      refine g_nrm (cs1 := [wq, [(h, ob 14 [.ref ha, .ref tr])], wh, [(tr, lA (aC E 1) 400 g)]]) (st1 := [.int (if rAns r15 = (-1) then 0 else 1)]) rfl rfl ?_
                      refine g_if_eq hX (pc := 179) (tgt := 196) dX16_isAsOne_2_179 rfl (fun c26_ => ?_) (fun c26_ => ?_)
                      · have c26 := z01.mp c26_
                        refine g_iconst hX (pc := 196) (v := 1) dX16_isAsOne_2_196 (by decide) ?_
                        refine g_goto hX (pc := 197) (tgt := 201) dX16_isAsOne_2_197 rfl ?_
                        refine g_istore hX (pc := 201) (lv1 := [(7, .int 1), (6, .ref y17), (5, .int (nI i)), (0, .ref h), (1, .int (nI s)), (2, .int (nI v))]) dX16_isAsOne_2_201 (by decide) rfl ?_
                        refine g_iload hX (pc := 203) dX16_isAsOne_2_203 0 rfl ?_
                        refine g_if_eq hX (pc := 205) (tgt := 229) dX16_isAsOne_2_205 rfl (fun c27 => ?_) (fun c27 => ?_)
                        · exact absurd c27 (by decide)
                        · refine g_aload_n hX (pc := 208) dX16_isAsOne_2_208 3 rfl ?_
                          refine g_iload_n hX (pc := 209) dX16_isAsOne_2_209 4 rfl ?_
                          refine g_iconst hX (pc := 210) (v := 1) dX16_isAsOne_2_210 (by decide) ?_
                          refine g_iload hX (pc := 211) dX16_isAsOne_2_211 2 rfl ?_
                          refine g_ishl hX (pc := 213) dX16_isAsOne_2_213 ?_
                          refine g_ior hX (pc := 214) dX16_isAsOne_2_214 ?_
                          refine g_eqi (nI (s ||| 1 <<< i)) (sb_or s hs i (by omega)) ?_
                          refine g_aload hX (pc := 215) dX16_isAsOne_2_215 1 rfl ?_
                          refine g_iload_n hX (pc := 217) dX16_isAsOne_2_217 5 rfl ?_
                          refine g_callV hX (pc := 218) kX12_behind (mt_Request_behindM E l y17 r15 wq (nI v) (hm21) ((hl.2 r15 (List.mem_of_getElem? hgr15)).1)) q722 fcX12 (sp_in 0 rfl hm21) [0] rfl rfl rfl (Nat.le_of_ble_eq_true rfl) (Nat.le_of_ble_eq_true rfl) (Nat.le_of_ble_eq_true rfl) (by omega) (by omega) dX16_isAsOne_2_218 (fun v w1 hp => ?_)
                          obtain ⟨rfl, rfl⟩ := hp
                          refine g_nrm (cs1 := [wq, [(h, ob 14 [.ref ha, .ref tr])], wh, [(tr, lA (aC E 1) 400 g)]]) (st1 := [.int (rqBeh (rK r15) (rA r15) (rB r15) (nI v)), .int (nI (s ||| 1 <<< i)), .ref h]) rfl rfl ?_
                          refine g_eqi (nI (hBeh r15 v)) ((beh_ok (hl.2 r15 (List.mem_of_getElem? hgr15)).2 hv).1) ?_
                          refine g_callV hX (pc := 221) kX16_isAsOne_2 (mt_History_isAsOne_7 E l h ha tr g gl wh wq (s ||| 1 <<< i) (hBeh r15 v) hw (hl) (sb_lt s hs i (by omega)) ((beh_ok (hl.2 r15 (List.mem_of_getElem? hgr15)).2 hv).2) (uns_call d2 hb hd) (TJ.pre hJ (sb_gt hb))) q706 fcX16 (sp_mem (i := 1) rfl) [1, 2, 1, 0] rfl rfl rfl (Nat.le_of_ble_eq_true rfl) (Nat.le_of_ble_eq_true rfl) (Nat.le_of_ble_eq_true rfl) (by omega) (by omega) dX16_isAsOne_2_221 (fun v w1 hp => ?_)
                          obtain ⟨f128, h29, h30, rfl, rfl⟩ := hp
                          refine g_nrm (cs1 := [[(h, ob 14 [.ref ha, .ref tr])], [(tr, lA (aC E 1) 400 f128)], wh, wq]) (st1 := [.int (bI (LIN gl (s ||| 1 <<< i) (hBeh r15 v)))]) rfl rfl ?_
                          refine g_if_eq hX (pc := 224) (tgt := 229) dX16_isAsOne_2_224 rfl (fun c31_ => ?_) (fun c31_ => ?_)
                          · have c31 := bI_0.mp c31_
                            refine g_iinc hX (pc := 229) (v := nI (i + 1)) (lv1 := [(5, .int (nI (i + 1))), (7, .int 1), (6, .ref y17), (0, .ref h), (1, .int (nI s)), (2, .int (nI v))]) dX16_isAsOne_2_229 2 rfl (nI_1 _) (by decide) rfl ?_
                            refine g_goto hX (pc := 232) (tgt := 125) dX16_isAsOne_2_232 rfl ?_
                            refine g_lv (lv1 := [(5, .int (nI (i + 1))), (0, .ref h), (1, .int (nI s)), (2, .int (nI v))]) [0, 3, 4, 5] rfl ?_
                            refine g_widen (kc1 := 0) (ks1 := 0) (by omega) (by omega) ?_
                            exact ih2 (i + 1) f128 (by omega) (by omega) (TJ.call hJ (sb_gt hb) h29 (h30 c31)) (TS.tr hS (Nat.le_of_lt (sb_gt hb)) h29) (any_n hgr15 hany (Or.inr (Or.inr c31)))
                          · have c31 := mt bI_0.mpr c31_
                            refine g_iconst hX (pc := 227) (v := 1) dX16_isAsOne_2_227 (by decide) ?_
                            refine g_zret hX (pc := 228) hR rfl ?_ (by omega) (by omega) dX16_isAsOne_2_228
                            have hL := LIN_y hl.1 d2 hgr15 hb (can_y (by simpa using c24) (Or.inl c26)) (by simpa using c31)
                            rw [hL]
                            exact ⟨_, TS.tr hS (Nat.le_of_lt (sb_gt hb)) h29, fun z => absurd z (by decide), rfl, rfl⟩
                      · have c26 := z01n.mp c26_
                        refine g_aload hX (pc := 182) dX16_isAsOne_2_182 0 rfl ?_
                        refine g_iload_n hX (pc := 184) dX16_isAsOne_2_184 4 rfl ?_
                        refine g_callV hX (pc := 185) kX12_told (mt_Request_toldM E l y17 r15 wq (nI v) (hm21) ((hl.2 r15 (List.mem_of_getElem? hgr15)).1)) q718 fcX12 (sp_in 0 rfl hm21) [0] rfl rfl rfl (Nat.le_of_ble_eq_true rfl) (Nat.le_of_ble_eq_true rfl) (Nat.le_of_ble_eq_true rfl) (by omega) (by omega) dX16_isAsOne_2_185 (fun v w1 hp => ?_)
                        obtain ⟨rfl, rfl⟩ := hp
                        refine g_nrm (cs1 := [wq, [(h, ob 14 [.ref ha, .ref tr])], wh, [(tr, lA (aC E 1) 400 g)]]) (st1 := [.int (rqTold (rK r15) (rA r15) (nI v))]) rfl rfl ?_
                        refine g_aload hX (pc := 188) dX16_isAsOne_2_188 0 rfl ?_
                        refine g_getNm hX (pc := 190) fcX12 (sp_in 0 rfl hm21) 5 (by decide) q1005 rfl (v := .int (rRes r15)) rfl dX16_isAsOne_2_190 ?_
                        refine g_icmp_ne hX (pc := 193) (tgt := 200) dX16_isAsOne_2_193 rfl (fun c32 => ?_) (fun c32 => ?_)
                        · refine g_iconst hX (pc := 200) (v := 0) dX16_isAsOne_2_200 (by decide) ?_
                          refine g_istore hX (pc := 201) (lv1 := [(7, .int 0), (6, .ref y17), (5, .int (nI i)), (0, .ref h), (1, .int (nI s)), (2, .int (nI v))]) dX16_isAsOne_2_201 (by decide) rfl ?_
                          refine g_iload hX (pc := 203) dX16_isAsOne_2_203 0 rfl ?_
                          refine g_if_eq hX (pc := 205) (tgt := 229) dX16_isAsOne_2_205 rfl (fun c33 => ?_) (fun c33 => ?_)
                          · refine g_iinc hX (pc := 229) (v := nI (i + 1)) (lv1 := [(5, .int (nI (i + 1))), (7, .int 0), (6, .ref y17), (0, .ref h), (1, .int (nI s)), (2, .int (nI v))]) dX16_isAsOne_2_229 2 rfl (nI_1 _) (by decide) rfl ?_
                            refine g_goto hX (pc := 232) (tgt := 125) dX16_isAsOne_2_232 rfl ?_
                            refine g_pk [1, 2, 1, 0] rfl ?_
                            refine g_cs (cs1 := [[(h, ob 14 [.ref ha, .ref tr])], [(tr, lA (aC E 1) 400 g)], wh, wq]) rfl ?_
                            refine g_lv (lv1 := [(5, .int (nI (i + 1))), (0, .ref h), (1, .int (nI s)), (2, .int (nI v))]) [0, 3, 4, 5] rfl ?_
                            refine g_widen (kc1 := 0) (ks1 := 0) (by omega) (by omega) ?_
                            exact ih2 (i + 1) g (by omega) (by omega) (hJ) (hS) (any_n hgr15 hany (Or.inr (Or.inl (can_n2 c26 c32))))
                          · exact absurd c33 (by decide)
                        · refine g_iconst hX (pc := 196) (v := 1) dX16_isAsOne_2_196 (by decide) ?_
                          refine g_goto hX (pc := 197) (tgt := 201) dX16_isAsOne_2_197 rfl ?_
                          refine g_istore hX (pc := 201) (lv1 := [(7, .int 1), (6, .ref y17), (5, .int (nI i)), (0, .ref h), (1, .int (nI s)), (2, .int (nI v))]) dX16_isAsOne_2_201 (by decide) rfl ?_
                          refine g_iload hX (pc := 203) dX16_isAsOne_2_203 0 rfl ?_
                          refine g_if_eq hX (pc := 205) (tgt := 229) dX16_isAsOne_2_205 rfl (fun c34 => ?_) (fun c34 => ?_)
                          · exact absurd c34 (by decide)
                          · refine g_aload_n hX (pc := 208) dX16_isAsOne_2_208 3 rfl ?_
                            refine g_iload_n hX (pc := 209) dX16_isAsOne_2_209 4 rfl ?_
                            refine g_iconst hX (pc := 210) (v := 1) dX16_isAsOne_2_210 (by decide) ?_
                            refine g_iload hX (pc := 211) dX16_isAsOne_2_211 2 rfl ?_
                            refine g_ishl hX (pc := 213) dX16_isAsOne_2_213 ?_
                            refine g_ior hX (pc := 214) dX16_isAsOne_2_214 ?_
                            refine g_eqi (nI (s ||| 1 <<< i)) (sb_or s hs i (by omega)) ?_
                            refine g_aload hX (pc := 215) dX16_isAsOne_2_215 1 rfl ?_
                            refine g_iload_n hX (pc := 217) dX16_isAsOne_2_217 5 rfl ?_
                            refine g_callV hX (pc := 218) kX12_behind (mt_Request_behindM E l y17 r15 wq (nI v) (hm21) ((hl.2 r15 (List.mem_of_getElem? hgr15)).1)) q722 fcX12 (sp_in 0 rfl hm21) [0] rfl rfl rfl (Nat.le_of_ble_eq_true rfl) (Nat.le_of_ble_eq_true rfl) (Nat.le_of_ble_eq_true rfl) (by omega) (by omega) dX16_isAsOne_2_218 (fun v w1 hp => ?_)
                            obtain ⟨rfl, rfl⟩ := hp
                            refine g_nrm (cs1 := [wq, [(h, ob 14 [.ref ha, .ref tr])], wh, [(tr, lA (aC E 1) 400 g)]]) (st1 := [.int (rqBeh (rK r15) (rA r15) (rB r15) (nI v)), .int (nI (s ||| 1 <<< i)), .ref h]) rfl rfl ?_
                            refine g_eqi (nI (hBeh r15 v)) ((beh_ok (hl.2 r15 (List.mem_of_getElem? hgr15)).2 hv).1) ?_
                            refine g_callV hX (pc := 221) kX16_isAsOne_2 (mt_History_isAsOne_7 E l h ha tr g gl wh wq (s ||| 1 <<< i) (hBeh r15 v) hw (hl) (sb_lt s hs i (by omega)) ((beh_ok (hl.2 r15 (List.mem_of_getElem? hgr15)).2 hv).2) (uns_call d2 hb hd) (TJ.pre hJ (sb_gt hb))) q706 fcX16 (sp_mem (i := 1) rfl) [1, 2, 1, 0] rfl rfl rfl (Nat.le_of_ble_eq_true rfl) (Nat.le_of_ble_eq_true rfl) (Nat.le_of_ble_eq_true rfl) (by omega) (by omega) dX16_isAsOne_2_221 (fun v w1 hp => ?_)
                            obtain ⟨f135, h36, h37, rfl, rfl⟩ := hp
                            refine g_nrm (cs1 := [[(h, ob 14 [.ref ha, .ref tr])], [(tr, lA (aC E 1) 400 f135)], wh, wq]) (st1 := [.int (bI (LIN gl (s ||| 1 <<< i) (hBeh r15 v)))]) rfl rfl ?_
                            refine g_if_eq hX (pc := 224) (tgt := 229) dX16_isAsOne_2_224 rfl (fun c38_ => ?_) (fun c38_ => ?_)
                            · have c38 := bI_0.mp c38_
                              refine g_iinc hX (pc := 229) (v := nI (i + 1)) (lv1 := [(5, .int (nI (i + 1))), (7, .int 1), (6, .ref y17), (0, .ref h), (1, .int (nI s)), (2, .int (nI v))]) dX16_isAsOne_2_229 2 rfl (nI_1 _) (by decide) rfl ?_
                              refine g_goto hX (pc := 232) (tgt := 125) dX16_isAsOne_2_232 rfl ?_
                              refine g_lv (lv1 := [(5, .int (nI (i + 1))), (0, .ref h), (1, .int (nI s)), (2, .int (nI v))]) [0, 3, 4, 5] rfl ?_
                              refine g_widen (kc1 := 0) (ks1 := 0) (by omega) (by omega) ?_
                              exact ih2 (i + 1) f135 (by omega) (by omega) (TJ.call hJ (sb_gt hb) h36 (h37 c38)) (TS.tr hS (Nat.le_of_lt (sb_gt hb)) h36) (any_n hgr15 hany (Or.inr (Or.inr c38)))
                            · have c38 := mt bI_0.mpr c38_
                              refine g_iconst hX (pc := 227) (v := 1) dX16_isAsOne_2_227 (by decide) ?_
                              refine g_zret hX (pc := 228) hR rfl ?_ (by omega) (by omega) dX16_isAsOne_2_228
                              have hL := LIN_y hl.1 d2 hgr15 hb (can_y (by simpa using c24) (Or.inr c32)) (by simpa using c38)
                              rw [hL]
                              exact ⟨_, TS.tr hS (Nat.le_of_lt (sb_gt hb)) h36, fun z => absurd z (by decide), rfl, rfl⟩
            refine g_pk [1, 1, 0, 0] rfl ?_
            refine g_cs (cs1 := [[(h, ob 14 [.ref ha, .ref tr])], [(tr, lA (aC E 1) 400 f2)], wh, wq]) rfl ?_
            refine g_lv (lv1 := [(5, .int (nI 0)), (0, .ref h), (1, .int (nI s)), (2, .int (nI v))]) [0, 3, 4, 5] rfl ?_
            refine g_widen (kc1 := 0) (ks1 := 0) (by omega) (by omega) ?_
            exact lp13 ((List.length gl - 0) + 1) 0 f2 (Nat.lt_succ_self _) (Nat.zero_le _) (hJ0) (hS0) (rfl)
          · refine g_iconst hX (pc := 100) (v := 0) dX16_isAsOne_2_100 (by decide) ?_
            refine g_pk [1, 1, 0, 0] rfl ?_
            refine g_cs (cs1 := [[(h, ob 14 [.ref ha, .ref tr])], [(tr, lA (aC E 1) 400 f)], wh, wq]) rfl ?_
            refine g_zret hX (pc := 101) hR rfl ?_ (by omega) (by omega) dX16_isAsOne_2_101
            have hL := hT s v (Nat.le_refl _) hv (lcmp_1.mp c12)
            rw [hL]
            exact ⟨_, fun _ _ _ _ => rfl, fun _ => hT, rfl, rfl⟩
        · have c11 := mt bI_0.mpr c11_
          refine g_iconst hX (pc := 67) (v := 1) dX16_isAsOne_2_67 (by decide) ?_
          refine g_pk [1, 1, 0, 0] rfl ?_
          refine g_cs (cs1 := [[(h, ob 14 [.ref ha, .ref tr])], [(tr, lA (aC E 1) 400 f)], wh, wq]) rfl ?_
          refine g_zret hX (pc := 68) hR rfl ?_ (by omega) (by omega) dX16_isAsOne_2_68
          have hL := LIN_d hl.1 (v := v) (by rw [← d1]; simpa using c11)
          rw [hL]
          exact ⟨_, fun _ _ _ _ => rfl, fun z => absurd z (by decide), rfl, rfl⟩
      · have d1 : k < List.length gl := by
          have := mt (nI_leI (by omega) (by omega)).mpr c10
          omega
        obtain ⟨r39, hgr39⟩ := get_ex (l := gl) (i := k) (d1)
        obtain ⟨as40, y41, hA42, hl43, hk44, hm45⟩ := HL.at hw hgr39
        refine g_iload_n hX (pc := 19) dX16_isAsOne_2_19 1 rfl ?_
        refine g_iload_n hX (pc := 20) dX16_isAsOne_2_20 3 rfl ?_
        refine g_iload hX (pc := 21) dX16_isAsOne_2_21 0 rfl ?_
        refine g_ishr hX (pc := 23) dX16_isAsOne_2_23 ?_
        refine g_iconst hX (pc := 24) (v := 1) dX16_isAsOne_2_24 (by decide) ?_
        refine g_iand hX (pc := 25) dX16_isAsOne_2_25 ?_
        refine g_eqi (bI (Nat.testBit s k)) (sb_get s hs k (by omega)) ?_
        refine g_iconst hX (pc := 26) (v := 1) dX16_isAsOne_2_26 (by decide) ?_
        refine g_icmp_eq hX (pc := 27) (tgt := 50) dX16_isAsOne_2_27 rfl (fun c46 => ?_) (fun c46 => ?_)
        · refine g_iconst hX (pc := 50) (v := 1) dX16_isAsOne_2_50 (by decide) ?_
          refine g_goto hX (pc := 51) (tgt := 55) dX16_isAsOne_2_51 rfl ?_
          refine g_iand hX (pc := 55) dX16_isAsOne_2_55 ?_
          refine g_eqi (bI (dnUp gl s (k + 1))) (dn_1 (Or.inl (bI_1.mp c46))) ?_
          refine g_istore_n hX (pc := 56) (lv1 := [(3, .int (bI (dnUp gl s (k + 1)))), (4, .int (nI k)), (0, .ref h), (1, .int (nI s)), (2, .int (nI v))]) dX16_isAsOne_2_56 (by decide) rfl ?_
          refine g_iinc hX (pc := 57) (v := nI (k + 1)) (lv1 := [(4, .int (nI (k + 1))), (3, .int (bI (dnUp gl s (k + 1)))), (0, .ref h), (1, .int (nI s)), (2, .int (nI v))]) dX16_isAsOne_2_57 1 rfl (nI_1 _) (by decide) rfl ?_
          refine g_goto hX (pc := 60) (tgt := 5) dX16_isAsOne_2_60 rfl ?_
          refine g_pk [1, 1, 0, 0] rfl ?_
          refine g_cs (cs1 := [[(h, ob 14 [.ref ha, .ref tr])], [(tr, lA (aC E 1) 400 f)], wh, wq]) rfl ?_
          refine g_widen (kc1 := 0) (ks1 := 0) (by omega) (by omega) ?_
          exact ih1 (k + 1) (by omega) (by omega)
        · refine g_aload_n hX (pc := 30) dX16_isAsOne_2_30 2 rfl ?_
          refine g_get hX (pc := 31) fcX16 1 rfl 0 (by decide) q695 rfl (v := .ref ha) rfl dX16_isAsOne_2_31 ?_
          refine g_iload hX (pc := 34) dX16_isAsOne_2_34 0 rfl ?_
          refine g_callF hX (pc := 36) kfJ2_get (mt_AL_get E l ha as40 wh k y41 hA42 (hk44)) q270 fcJ2 (sp_in 0 rfl hm9) [0] rfl rfl rfl (Nat.le_of_ble_eq_true rfl) (Nat.le_of_ble_eq_true rfl) (Nat.le_of_ble_eq_true rfl) (by omega) (by omega) dX16_isAsOne_2_36 (fun v w1 hp => ?_)
          obtain ⟨rfl, rfl⟩ := hp
          refine g_nrm (cs1 := [wh, [(h, ob 14 [.ref ha, .ref tr])], [(tr, lA (aC E 1) 400 f)], wq]) (st1 := [.ref y41, .int (bI (dnUp gl s k))]) rfl rfl ?_
          refine g_cast hX (pc := 41) fcX12 (sp_in 3 rfl hm45) q271 dX16_isAsOne_2_41 ?_
          refine g_callV hX (pc := 44) kX12_isAnswered (mt_Request_isAnsweredM E l y41 r39 wq (hm45)) q710 fcX12 (sp_in 3 rfl hm45) [3] rfl rfl rfl (Nat.le_of_ble_eq_true rfl) (Nat.le_of_ble_eq_true rfl) (Nat.le_of_ble_eq_true rfl) (by omega) (by omega) dX16_isAsOne_2_44 (fun v w1 hp => ?_)
          obtain ⟨rfl, rfl⟩ := hp
          refine g_nrm (cs1 := [wq, wh, [(h, ob 14 [.ref ha, .ref tr])], [(tr, lA (aC E 1) 400 f)]]) (st1 := [.int (if rAns r39 = (-1) then 0 else 1), .int (bI (dnUp gl s k))]) rfl rfl ?_
          refine g_if_ne hX (pc := 47) (tgt := 54) dX16_isAsOne_2_47 rfl (fun c47_ => ?_) (fun c47_ => ?_)
          · have c47 := z01n.mp c47_
            refine g_iconst hX (pc := 54) (v := 0) dX16_isAsOne_2_54 (by decide) ?_
            refine g_iand hX (pc := 55) dX16_isAsOne_2_55 ?_
            refine g_eqi (bI (dnUp gl s (k + 1))) (dn_0 (fun z => c46 (bI_1.mpr z)) (by rw [hG_e hgr39]; exact c47)) ?_
            refine g_istore_n hX (pc := 56) (lv1 := [(3, .int (bI (dnUp gl s (k + 1)))), (4, .int (nI k)), (0, .ref h), (1, .int (nI s)), (2, .int (nI v))]) dX16_isAsOne_2_56 (by decide) rfl ?_
            refine g_iinc hX (pc := 57) (v := nI (k + 1)) (lv1 := [(4, .int (nI (k + 1))), (3, .int (bI (dnUp gl s (k + 1)))), (0, .ref h), (1, .int (nI s)), (2, .int (nI v))]) dX16_isAsOne_2_57 1 rfl (nI_1 _) (by decide) rfl ?_
            refine g_goto hX (pc := 60) (tgt := 5) dX16_isAsOne_2_60 rfl ?_
            refine g_pk [2, 2, 1, 0] rfl ?_
            refine g_cs (cs1 := [[(h, ob 14 [.ref ha, .ref tr])], [(tr, lA (aC E 1) 400 f)], wh, wq]) rfl ?_
            refine g_widen (kc1 := 0) (ks1 := 0) (by omega) (by omega) ?_
            exact ih1 (k + 1) (by omega) (by omega)
          · have c47 := z01.mp c47_
            refine g_iconst hX (pc := 50) (v := 1) dX16_isAsOne_2_50 (by decide) ?_
            refine g_goto hX (pc := 51) (tgt := 55) dX16_isAsOne_2_51 rfl ?_
            refine g_iand hX (pc := 55) dX16_isAsOne_2_55 ?_
            refine g_eqi (bI (dnUp gl s (k + 1))) (dn_1 (Or.inr (by rw [hG_e hgr39]; exact c47))) ?_
            refine g_istore_n hX (pc := 56) (lv1 := [(3, .int (bI (dnUp gl s (k + 1)))), (4, .int (nI k)), (0, .ref h), (1, .int (nI s)), (2, .int (nI v))]) dX16_isAsOne_2_56 (by decide) rfl ?_
            refine g_iinc hX (pc := 57) (v := nI (k + 1)) (lv1 := [(4, .int (nI (k + 1))), (3, .int (bI (dnUp gl s (k + 1)))), (0, .ref h), (1, .int (nI s)), (2, .int (nI v))]) dX16_isAsOne_2_57 1 rfl (nI_1 _) (by decide) rfl ?_
            refine g_goto hX (pc := 60) (tgt := 5) dX16_isAsOne_2_60 rfl ?_
            refine g_pk [2, 2, 1, 0] rfl ?_
            refine g_cs (cs1 := [[(h, ob 14 [.ref ha, .ref tr])], [(tr, lA (aC E 1) 400 f)], wh, wq]) rfl ?_
            refine g_widen (kc1 := 0) (ks1 := 0) (by omega) (by omega) ?_
            exact ih1 (k + 1) (by omega) (by omega)
  refine g_widen (kc1 := 0) (ks1 := 0) (by omega) (by omega) ?_
  exact lp7 ((List.length gl - 0) + 1) 0 (Nat.lt_succ_self _) (Nat.zero_le _)
