set_option maxHeartbeats 4000000 in
theorem mt_Q_stand (E : EE) (l : Launch) (o : Nat) (n : Nat) (lm : Nat) (lb : Nat) (lr : Nat) (P : PN) (wm : va_W) (wM : va_W) (wb : va_W) (wr : va_W) (wq : va_W) (fz : va_W) (k : Nat) (M : PM) (b : Nat) (hML : ML E fz lm (nM P) wm wM) (hB : BL E fz lb (nB P) wb) (hRq : RL E lr (nR P) wr wq) (hP : (nOK b P)) (hb : (b ≤ 32)) (hM : ((nM P)[k]? = some M)) (hu : (¬ mR M = 0)) (h3 : (¬ mR M = 3)) : Mt E l yX1_stand cX1_stand 3 (some .int) 11 43 1031 260 [.ref o, .int (nI k)] [[(o, ob 0 [.ref n])], [(n, ob 1 [.ref lm, .ref lb, .ref lr, .int (nLo P), .int (nNow P)])], wm, wM, wb, wr, wq, fz] (fun (v_ : Option Value) (cs_ : List va_W) => ∃ (fz1 : va_W) (w1 : va_W) (w2 : va_W) (w3 : va_W), Ext E fz fz1 ∧ ML E fz1 lm (nM (oStand P k)) wm w1 ∧ BL E fz1 lb (nB (oStand P k)) w2 ∧ RL E lr (nR (oStand P k)) wr w3 ∧ v_ = some (.int (lT (mL (mAt (oStand P k) k)))) ∧ cs_ = [[(o, ob 0 [.ref n])], [(n, ob 1 [.ref lm, .ref lb, .ref lr, .int (nLo (oStand P k)), .int (nNow (oStand P k))])], wm, w1, w2, wr, w3, fz1]) := by
  obtain ⟨mas, m, wk, pre, post, hAm, hml, hmk, hMk, rfl, hMc⟩ := ml_focus hML hM
  have hl5 : mas.length ≤ 5 := by rw [hml]; exact hP.1
  have hkl : k < (nM P).length := (List.getElem?_eq_some_iff.mp hM).1
  have hn30 : (nB P).length ≤ 30 := hP.2.1
  have hrq2 := hP.2.2.1
  have h40 := hrq2.1
  obtain ⟨m1, m2, m3⟩ := hP.2.2.2.1 _ _ hM
  rw [← hml] at m1
  obtain ⟨⟨o1, o2⟩, ⟨o3, o4⟩, ⟨o5, o6, o7, o8⟩, ⟨o9, o10⟩, o11, o12⟩ := m1
  have m1 : mOK mas.length (nR P).length b M := ⟨⟨o1, o2⟩, ⟨o3, o4⟩, ⟨o5, o6, o7, o8⟩, ⟨o9, o10⟩, o11, o12⟩
  have hll : lLast (mL M) = lB (mL M) + (lE (mL M)).length := rfl
  have hlv : lLast (mV M) = lB (mV M) + (lE (mV M)).length := rfl
  refine Mt.of (by decide) (Nat.le_of_ble_eq_true rfl) (fun X hX hR hin => ?_)
  refine g_lv1 (lv1 := [(0, .ref o), (1, .int (nI k))]) rfl ?_
  refine g_fl (cs1 := [[(o, ob 0 [.ref n])], [(n, ob 1 [.ref lm, .ref lb, .ref lr, .int (nLo P), .int (nNow P)])], wm, pre, wk, post, wb, wr, wq, fz]) (by simp only [List.flatten_cons, List.flatten_nil, List.cons_append, List.append_assoc, List.nil_append, List.append_nil]) ?_
  refine g_aload_n hX (pc := 0) dX1_stand_0 0 rfl ?_
  refine g_iload_n hX (pc := 1) dX1_stand_1 1 rfl ?_
  refine g_callV hX (pc := 2) kX1_upAt (mt_Q_upAt E l o n lm lb lr (nLo P) (nNow P) mas wm k m M wk fz hAm hMk (hmk) (hl5) (by omega)) q1380 fcX1 (sp_mem (i := 0) rfl) [0, 0, 0, 1] rfl rfl rfl (Nat.le_of_ble_eq_true rfl) (Nat.le_of_ble_eq_true rfl) (Nat.le_of_ble_eq_true rfl) (by omega) (by omega) dX1_stand_2 (fun v w1 hp => ?_)
  obtain ⟨rfl, rfl⟩ := hp
  refine g_nrm (cs1 := [[(o, ob 0 [.ref n])], [(n, ob 1 [.ref lm, .ref lb, .ref lr, .int (nLo P), .int (nNow P)])], wm, wk, pre, post, wb, wr, wq, fz]) (st1 := [.ref m]) rfl rfl ?_
  refine g_astore_n hX (pc := 5) (lv1 := [(2, .ref m), (0, .ref o), (1, .int (nI k))]) dX1_stand_5 (by decide) rfl ?_
  refine g_aload_n hX (pc := 6) dX1_stand_6 0 rfl ?_
  obtain ⟨fs1, hm2⟩ := IsMach.head hMk
  refine g_callV hX (pc := 7) kX9_isLeader (mt_Machine_isLeaderM E l m M wk fz hMk) q1036 fcX9 (sp_in 3 rfl hm2) [3] rfl rfl rfl (Nat.le_of_ble_eq_true rfl) (Nat.le_of_ble_eq_true rfl) (Nat.le_of_ble_eq_true rfl) (by omega) (by omega) dX1_stand_7 (fun v w1 hp => ?_)
  obtain ⟨rfl, rfl⟩ := hp
  refine g_nrm (cs1 := [wk, [(o, ob 0 [.ref n])], [(n, ob 1 [.ref lm, .ref lb, .ref lr, .int (nLo P), .int (nNow P)])], wm, pre, post, wb, wr, wq, fz]) (st1 := [.int (if mR M = 3 then 1 else 0)]) rfl rfl ?_
  refine g_val (v := if mR M = 3 then 0 else 1) (pcJ := 18) (st1 := []) (fun hj3 => ?_) ?_
  · refine g_if_ne hX (pc := 10) (tgt := 17) dX1_stand_10 rfl (fun c4_ => ?_) (fun c4_ => ?_)
    · have c4 := z10n.mp c4_
      refine g_iconst hX (pc := 17) (v := 0) dX1_stand_17 (by decide) ?_
      exact hj3 _ (by rw [if_pos c4])
    · have c4 := z10.mp c4_
      refine g_iconst hX (pc := 13) (v := 1) dX1_stand_13 (by decide) ?_
      refine g_goto hX (pc := 14) (tgt := 18) dX1_stand_14 rfl ?_
      exact hj3 _ (by rw [if_neg c4])
  refine g_eqi 1 (if_neg h3) ?_
  refine g_callS hX (pc := 18) kX1_checkState (mt_checkState E l ) q1268 [] rfl rfl rfl (Nat.le_of_ble_eq_true rfl) (Nat.le_of_ble_eq_true rfl) (Nat.le_of_ble_eq_true rfl) (by omega) (by omega) dX1_stand_18 (fun v w1 hp => ?_)
  obtain ⟨rfl, rfl⟩ := hp
  refine g_nrm (cs1 := [wk, [(o, ob 0 [.ref n])], [(n, ob 1 [.ref lm, .ref lb, .ref lr, .int (nLo P), .int (nNow P)])], wm, pre, post, wb, wr, wq, fz]) (st1 := []) rfl rfl ?_
  refine g_aload_n hX (pc := 21) dX1_stand_21 1 rfl ?_
  refine g_get hX (pc := 22) fcX1 1 rfl 0 (by decide) q176 rfl (v := .ref n) rfl dX1_stand_22 ?_
  refine g_dup hX (pc := 25) dX1_stand_25 rfl ?_
  refine g_getN hX (pc := 26) fcX2 2 rfl 4 (by decide) q164 rfl (v := .int (nNow P)) rfl dX1_stand_26 ?_
  refine g_iconst hX (pc := 29) (v := 1) dX1_stand_29 (by decide) ?_
  refine g_iadd hX (pc := 30) dX1_stand_30 ?_
  refine g_putN hX (pc := 31) fcX2 2 (fs1 := [.ref lm, .ref lb, .ref lr, .int (nLo P), .int ((nNow P) + 1)]) (cs1 := [wk, [(o, ob 0 [.ref n])], [(n, ob 1 [.ref lm, .ref lb, .ref lr, .int (nLo P), .int ((nNow P) + 1)])], wm, pre, post, wb, wr, wq, fz]) rfl 4 (by decide) q164 rfl rfl rfl rfl (Nat.le_of_ble_eq_true rfl) rfl rfl dX1_stand_31 ?_
  have hB5 : BL E fz lb (Prod.fst (pB (nB P) (nLo P))) wb := hB
  refine g_cs (cs1 := [wk, [(o, ob 0 [.ref n])], [(n, ob 1 [.ref lm, .ref lb, .ref lr, .int (Prod.snd (pB (nB P) (nLo P))), .int ((nNow P) + 1)])], wm, pre, post, wb, wr, wq, fz]) (rfl) ?_
  refine g_aload_n hX (pc := 34) dX1_stand_34 1 rfl ?_
  refine g_get hX (pc := 35) fcX1 1 rfl 0 (by decide) q176 rfl (v := .ref n) rfl dX1_stand_35 ?_
  refine g_aload_n hX (pc := 38) dX1_stand_38 0 rfl ?_
  refine g_callV hX (pc := 39) kX2_stand (mt_Net_stand E l n lm lb lr ((nNow P) + 1) mas wm m M wk fz (pB (nB P) (nLo P)) wb (nR P) wr wq b hAm hMk hB5 hRq (m1) (hrq2) (hb) (hn30)) q1037 fcX2 (sp_mem (i := 2) rfl) [2, 2, 0, 3, 3, 3, 3] rfl rfl rfl (Nat.le_of_ble_eq_true rfl) (Nat.le_of_ble_eq_true rfl) (Nat.le_of_ble_eq_true rfl) (by omega) (by omega) dX1_stand_39 (fun v w1 hp => ?_)
  obtain ⟨fz16, w17, w28, w39, h10, h11, h12, h13, rfl, rfl⟩ := hp
  refine g_nrm (cs1 := [[(n, ob 1 [.ref lm, .ref lb, .ref lr, .int (Prod.snd (Prod.snd (standIf (List.length mas) M (pB (nB P) (nLo P))))), .int ((nNow P) + 1)])], wm, w17, w28, wr, w39, fz16, [(o, ob 0 [.ref n])], pre, post]) (st1 := []) rfl rfl ?_
  have h14 := ML.mono h10 hML
  have h15 := IsMach.mono h10 hMk
  have h16 := BL.mono h10 hB5
  have ht17 : List.length (nM P) = List.length mas := hml.symm
  refine g_cs (cs1 := [[(n, ob 1 [.ref lm, .ref lb, .ref lr, .int (Prod.snd (Prod.snd (standIf (List.length (nM P)) M (pB (nB P) (nLo P))))), .int ((nNow P) + 1)])], wm, w17, w28, wr, w39, fz16, [(o, ob 0 [.ref n])], pre, post]) (by rw [ht17]) ?_
  have h18 : IsMach E fz16 m (Prod.fst (settle (List.length (nM P)) ((nNow P) + 1) (Prod.fst (standIf (List.length (nM P)) M (pB (nB P) (nLo P)))) (nR P))) w17 := by rw [ht17]; exact h11
  have h19 : BL E fz16 lb (Prod.fst (Prod.snd (standIf (List.length (nM P)) M (pB (nB P) (nLo P))))) w28 := by rw [ht17]; exact h12
  have h20 : RL E lr (Prod.snd (settle (List.length (nM P)) ((nNow P) + 1) (Prod.fst (standIf (List.length (nM P)) M (pB (nB P) (nLo P)))) (nR P))) wr w39 := by rw [ht17]; exact h13
  obtain ⟨rn21, rk22, rl23, rs24, rst25, la26, sp27, hpk28, hpl29⟩ := h18.peek
  refine g_aload_n hX (pc := 42) dX1_stand_42 0 rfl ?_
  refine g_getNm hX (pc := 43) fcX9 (sp_in 2 rfl hpk28) 3 (by decide) q934 rfl (v := .ref rl23) rfl dX1_stand_43 ?_
  refine g_getNm hX (pc := 46) fcX10 (sp_in 2 rfl hpl29) 1 (by decide) q846 rfl (v := .int (lT (mL (Prod.fst (settle (List.length (nM P)) ((nNow P) + 1) (Prod.fst (standIf (List.length (nM P)) M (pB (nB P) (nLo P)))) (nR P)))))) rfl dX1_stand_46 ?_
  refine g_pk [8, 2, 7] rfl ?_
  refine g_cs (cs1 := [pre, w17, post, [(n, ob 1 [.ref lm, .ref lb, .ref lr, .int (Prod.snd (Prod.snd (standIf (List.length (nM P)) M (pB (nB P) (nLo P))))), .int ((nNow P) + 1)])], wm, w28, wr, w39, fz16, [(o, ob 0 [.ref n])]]) rfl ?_
  refine g_fl (cs1 := [(pre ++ (w17 ++ (post))), [(n, ob 1 [.ref lm, .ref lb, .ref lr, .int (Prod.snd (Prod.snd (standIf (List.length (nM P)) M (pB (nB P) (nLo P))))), .int ((nNow P) + 1)])], wm, w28, wr, w39, fz16, [(o, ob 0 [.ref n])]]) (by simp only [List.flatten_cons, List.flatten_nil, List.cons_append, List.append_assoc, List.nil_append, List.append_nil]) ?_
  have hML30 : ML E fz16 lm (List.set (nM P) k (Prod.fst (settle (List.length (nM P)) ((nNow P) + 1) (Prod.fst (standIf (List.length (nM P)) M (pB (nB P) (nLo P)))) (nR P)))) wm (pre ++ (w17 ++ (post))) := hMc _ _ _ h10 h18
  generalize (pre ++ (w17 ++ (post))) = wM31 at hML30 ⊢
  refine g_pk [7, 1, 1, 0, 0, 0, 0, 0] rfl ?_
  refine g_cs (cs1 := [[(o, ob 0 [.ref n])], [(n, ob 1 [.ref lm, .ref lb, .ref lr, .int (Prod.snd (Prod.snd (standIf (List.length (nM P)) M (pB (nB P) (nLo P))))), .int ((nNow P) + 1)])], wm, wM31, w28, wr, w39, fz16]) rfl ?_
  refine g_iret hX (pc := 49) hR ?_ (by omega) (by omega) dX1_stand_49
  rw [oStand_e hM, nPut_at (P := nTick P) hkl]
  exact ⟨_, _, _, _, h10, hML30, h19, h20, rfl, rfl⟩

set_option maxHeartbeats 4000000 in
theorem mt_Q_beat (E : EE) (l : Launch) (o : Nat) (n : Nat) (lm : Nat) (lb : Nat) (lr : Nat) (P : PN) (wm : va_W) (wM : va_W) (wb : va_W) (wr : va_W) (wq : va_W) (fz : va_W) (k : Nat) (M : PM) (b : Nat) (hML : ML E fz lm (nM P) wm wM) (hB : BL E fz lb (nB P) wb) (hRq : RL E lr (nR P) wr wq) (hP : (nOK b P)) (hb : (b ≤ 32)) (hM : ((nM P)[k]? = some M)) (h3 : (mR M = 3)) : Mt E l yX1_beat cX1_beat 3 (some .int) 10 26 499 237 [.ref o, .int (nI k)] [[(o, ob 0 [.ref n])], [(n, ob 1 [.ref lm, .ref lb, .ref lr, .int (nLo P), .int (nNow P)])], wm, wM, wb, wr, wq, fz] (fun (v_ : Option Value) (cs_ : List va_W) => ∃ (fz1 : va_W) (w1 : va_W) (w2 : va_W) (w3 : va_W), Ext E fz fz1 ∧ ML E fz1 lm (nM (oBeat P k)) wm w1 ∧ BL E fz1 lb (nB (oBeat P k)) w2 ∧ RL E lr (nR (oBeat P k)) wr w3 ∧ v_ = some (.int (nI (List.length (nB (oBeat P k))))) ∧ cs_ = [[(o, ob 0 [.ref n])], [(n, ob 1 [.ref lm, .ref lb, .ref lr, .int (nLo (oBeat P k)), .int (nNow (oBeat P k))])], wm, w1, w2, wr, w3, fz1]) := by
  obtain ⟨mas, m, wk, pre, post, hAm, hml, hmk, hMk, rfl, hMc⟩ := ml_focus hML hM
  have hl5 : mas.length ≤ 5 := by rw [hml]; exact hP.1
  have hkl : k < (nM P).length := (List.getElem?_eq_some_iff.mp hM).1
  have hn30 : (nB P).length ≤ 30 := hP.2.1
  have hrq2 := hP.2.2.1
  have h40 := hrq2.1
  obtain ⟨m1, m2, m3⟩ := hP.2.2.2.1 _ _ hM
  rw [← hml] at m1
  obtain ⟨⟨o1, o2⟩, ⟨o3, o4⟩, ⟨o5, o6, o7, o8⟩, ⟨o9, o10⟩, o11, o12⟩ := m1
  have m1 : mOK mas.length (nR P).length b M := ⟨⟨o1, o2⟩, ⟨o3, o4⟩, ⟨o5, o6, o7, o8⟩, ⟨o9, o10⟩, o11, o12⟩
  have hll : lLast (mL M) = lB (mL M) + (lE (mL M)).length := rfl
  have hlv : lLast (mV M) = lB (mV M) + (lE (mV M)).length := rfl
  refine Mt.of (by decide) (Nat.le_of_ble_eq_true rfl) (fun X hX hR hin => ?_)
  refine g_lv1 (lv1 := [(0, .ref o), (1, .int (nI k))]) rfl ?_
  refine g_fl (cs1 := [[(o, ob 0 [.ref n])], [(n, ob 1 [.ref lm, .ref lb, .ref lr, .int (nLo P), .int (nNow P)])], wm, pre, wk, post, wb, wr, wq, fz]) (by simp only [List.flatten_cons, List.flatten_nil, List.cons_append, List.append_assoc, List.nil_append, List.append_nil]) ?_
  refine g_aload_n hX (pc := 0) dX1_beat_0 0 rfl ?_
  refine g_iload_n hX (pc := 1) dX1_beat_1 1 rfl ?_
  refine g_callV hX (pc := 2) kX1_machineAt (mt_Q_machineAt E l o n lm lb lr (nLo P) (nNow P) mas wm k m M wk fz hAm hMk (hmk) (hl5)) q1360 fcX1 (sp_mem (i := 0) rfl) [0, 0, 0, 1] rfl rfl rfl (Nat.le_of_ble_eq_true rfl) (Nat.le_of_ble_eq_true rfl) (Nat.le_of_ble_eq_true rfl) (by omega) (by omega) dX1_beat_2 (fun v w1 hp => ?_)
  obtain ⟨rfl, rfl⟩ := hp
  refine g_nrm (cs1 := [[(o, ob 0 [.ref n])], [(n, ob 1 [.ref lm, .ref lb, .ref lr, .int (nLo P), .int (nNow P)])], wm, wk, pre, post, wb, wr, wq, fz]) (st1 := [.ref m]) rfl rfl ?_
  refine g_astore_n hX (pc := 5) (lv1 := [(2, .ref m), (0, .ref o), (1, .int (nI k))]) dX1_beat_5 (by decide) rfl ?_
  refine g_aload_n hX (pc := 6) dX1_beat_6 0 rfl ?_
  obtain ⟨fs1, hm2⟩ := IsMach.head hMk
  refine g_callV hX (pc := 7) kX9_isLeader (mt_Machine_isLeaderM E l m M wk fz hMk) q1036 fcX9 (sp_in 3 rfl hm2) [3] rfl rfl rfl (Nat.le_of_ble_eq_true rfl) (Nat.le_of_ble_eq_true rfl) (Nat.le_of_ble_eq_true rfl) (by omega) (by omega) dX1_beat_7 (fun v w1 hp => ?_)
  obtain ⟨rfl, rfl⟩ := hp
  refine g_nrm (cs1 := [wk, [(o, ob 0 [.ref n])], [(n, ob 1 [.ref lm, .ref lb, .ref lr, .int (nLo P), .int (nNow P)])], wm, pre, post, wb, wr, wq, fz]) (st1 := [.int (if mR M = 3 then 1 else 0)]) rfl rfl ?_
  refine g_eqi 1 (if_pos h3) ?_
  refine g_callS hX (pc := 10) kX1_checkState (mt_checkState E l ) q1268 [] rfl rfl rfl (Nat.le_of_ble_eq_true rfl) (Nat.le_of_ble_eq_true rfl) (Nat.le_of_ble_eq_true rfl) (by omega) (by omega) dX1_beat_10 (fun v w1 hp => ?_)
  obtain ⟨rfl, rfl⟩ := hp
  refine g_nrm (cs1 := [wk, [(o, ob 0 [.ref n])], [(n, ob 1 [.ref lm, .ref lb, .ref lr, .int (nLo P), .int (nNow P)])], wm, pre, post, wb, wr, wq, fz]) (st1 := []) rfl rfl ?_
  refine g_aload_n hX (pc := 13) dX1_beat_13 1 rfl ?_
  refine g_get hX (pc := 14) fcX1 1 rfl 0 (by decide) q176 rfl (v := .ref n) rfl dX1_beat_14 ?_
  refine g_dup hX (pc := 17) dX1_beat_17 rfl ?_
  refine g_getN hX (pc := 18) fcX2 2 rfl 4 (by decide) q164 rfl (v := .int (nNow P)) rfl dX1_beat_18 ?_
  refine g_iconst hX (pc := 21) (v := 1) dX1_beat_21 (by decide) ?_
  refine g_iadd hX (pc := 22) dX1_beat_22 ?_
  refine g_putN hX (pc := 23) fcX2 2 (fs1 := [.ref lm, .ref lb, .ref lr, .int (nLo P), .int ((nNow P) + 1)]) (cs1 := [wk, [(o, ob 0 [.ref n])], [(n, ob 1 [.ref lm, .ref lb, .ref lr, .int (nLo P), .int ((nNow P) + 1)])], wm, pre, post, wb, wr, wq, fz]) rfl 4 (by decide) q164 rfl rfl rfl rfl (Nat.le_of_ble_eq_true rfl) rfl rfl dX1_beat_23 ?_
  have hB3 : BL E fz lb (Prod.fst (pB (nB P) (nLo P))) wb := hB
  refine g_cs (cs1 := [wk, [(o, ob 0 [.ref n])], [(n, ob 1 [.ref lm, .ref lb, .ref lr, .int (Prod.snd (pB (nB P) (nLo P))), .int ((nNow P) + 1)])], wm, pre, post, wb, wr, wq, fz]) (rfl) ?_
  refine g_aload_n hX (pc := 26) dX1_beat_26 1 rfl ?_
  refine g_get hX (pc := 27) fcX1 1 rfl 0 (by decide) q176 rfl (v := .ref n) rfl dX1_beat_27 ?_
  refine g_aload_n hX (pc := 30) dX1_beat_30 0 rfl ?_
  refine g_callV hX (pc := 31) kX2_beat (mt_Net_beat E l n lm lb lr ((nNow P) + 1) mas wm m M wk fz (pB (nB P) (nLo P)) wb hAm (hl5) hMk hB3 (fun j hj => ⟨o12 h3 j hj, by have := o11 j hj; omega⟩) (by omega) (by omega) (hn30)) q1391 fcX2 (sp_mem (i := 2) rfl) [2, 2, 0, 3, 5] rfl rfl rfl (Nat.le_of_ble_eq_true rfl) (Nat.le_of_ble_eq_true rfl) (Nat.le_of_ble_eq_true rfl) (by omega) (by omega) dX1_beat_31 (fun v w1 hp => ?_)
  obtain ⟨fz14, w15, w26, h7, h8, h9, rfl, rfl⟩ := hp
  refine g_nrm (cs1 := [[(n, ob 1 [.ref lm, .ref lb, .ref lr, .int (Prod.snd (toAll (mMore M) (mN M) (pB (nB P) (nLo P)) (List.length mas))), .int ((nNow P) + 1)])], w15, wm, w26, fz14, [(o, ob 0 [.ref n])], pre, post, wr, wq]) (st1 := []) rfl rfl ?_
  have h10 := ML.mono h7 hML
  have h11 := IsMach.mono h7 hMk
  have h12 := BL.mono h7 hB3
  refine g_aload_n hX (pc := 34) dX1_beat_34 1 rfl ?_
  refine g_get hX (pc := 35) fcX1 5 rfl 0 (by decide) q176 rfl (v := .ref n) rfl dX1_beat_35 ?_
  refine g_aload_n hX (pc := 38) dX1_beat_38 0 rfl ?_
  refine g_callVN hX (pc := 39) kX2_settle (mt_Net_settle E l n lm lb lr (Prod.snd (toAll (mMore M) (mN M) (pB (nB P) (nLo P)) (List.length mas))) ((nNow P) + 1) mas wm m M w15 fz14 (nR P) wr wq b hAm h8 hRq (m1) (hrq2) (by omega)) q1392 fcX2 (sp_mem (i := 0) rfl) [0, 1, 0, 5, 5, 1] rfl rfl rfl (Nat.le_of_ble_eq_true rfl) (Nat.le_of_ble_eq_true rfl) (Nat.le_of_ble_eq_true rfl) (by omega) (by omega) dX1_beat_39 (fun v w1 hp => ?_)
  obtain ⟨w113, w214, h15, h16, rfl, rfl⟩ := hp
  refine g_nrm (cs1 := [[(n, ob 1 [.ref lm, .ref lb, .ref lr, .int (Prod.snd (toAll (mMore M) (mN M) (pB (nB P) (nLo P)) (List.length mas))), .int ((nNow P) + 1)])], wm, w113, wr, w214, fz14, w26, [(o, ob 0 [.ref n])], pre, post]) (st1 := []) rfl rfl ?_
  have ht17 : List.length (nM P) = List.length mas := hml.symm
  refine g_cs (cs1 := [[(n, ob 1 [.ref lm, .ref lb, .ref lr, .int (Prod.snd (toAll (mMore M) (mN M) (pB (nB P) (nLo P)) (List.length (nM P)))), .int ((nNow P) + 1)])], wm, w113, wr, w214, fz14, w26, [(o, ob 0 [.ref n])], pre, post]) (by rw [ht17]) ?_
  have h18 : BL E fz14 lb (Prod.fst (toAll (mMore M) (mN M) (pB (nB P) (nLo P)) (List.length (nM P)))) w26 := by rw [ht17]; exact h9
  have h19 : IsMach E fz14 m (Prod.fst (settle (List.length (nM P)) ((nNow P) + 1) M (nR P))) w113 := by rw [ht17]; exact h15
  have h20 : RL E lr (Prod.snd (settle (List.length (nM P)) ((nNow P) + 1) M (nR P))) wr w214 := by rw [ht17]; exact h16
  refine g_aload_n hX (pc := 42) dX1_beat_42 1 rfl ?_
  refine g_get hX (pc := 43) fcX1 7 rfl 0 (by decide) q176 rfl (v := .ref n) rfl dX1_beat_43 ?_
  refine g_getN hX (pc := 46) fcX2 0 rfl 1 (by decide) q158 rfl (v := .ref lb) rfl dX1_beat_46 ?_
  obtain ⟨as21, hal22, hln23⟩ := BL.al h18
  obtain ⟨fs24, hm25⟩ := AL.head hal22
  refine g_callF hX (pc := 49) kfJ2_size (mt_AL_size E l lb as21 w26 hal22) q738 fcJ2 (sp_in 6 rfl hm25) [6] rfl rfl rfl (Nat.le_of_ble_eq_true rfl) (Nat.le_of_ble_eq_true rfl) (Nat.le_of_ble_eq_true rfl) (by omega) (by omega) dX1_beat_49 (fun v w1 hp => ?_)
  obtain ⟨rfl, rfl⟩ := hp
  refine g_nrm (cs1 := [w26, [(n, ob 1 [.ref lm, .ref lb, .ref lr, .int (Prod.snd (toAll (mMore M) (mN M) (pB (nB P) (nLo P)) (List.length (nM P)))), .int ((nNow P) + 1)])], wm, w113, wr, w214, fz14, [(o, ob 0 [.ref n])], pre, post]) (st1 := [.int (nI (List.length as21))]) rfl rfl ?_
  refine g_eqi (nI (List.length (Prod.fst (toAll (mMore M) (mN M) (pB (nB P) (nLo P)) (List.length (nM P)))))) (by rw [hln23]) ?_
  refine g_pk [8, 3, 7] rfl ?_
  refine g_cs (cs1 := [pre, w113, post, w26, [(n, ob 1 [.ref lm, .ref lb, .ref lr, .int (Prod.snd (toAll (mMore M) (mN M) (pB (nB P) (nLo P)) (List.length (nM P)))), .int ((nNow P) + 1)])], wm, wr, w214, fz14, [(o, ob 0 [.ref n])]]) rfl ?_
  refine g_fl (cs1 := [(pre ++ (w113 ++ (post))), w26, [(n, ob 1 [.ref lm, .ref lb, .ref lr, .int (Prod.snd (toAll (mMore M) (mN M) (pB (nB P) (nLo P)) (List.length (nM P)))), .int ((nNow P) + 1)])], wm, wr, w214, fz14, [(o, ob 0 [.ref n])]]) (by simp only [List.flatten_cons, List.flatten_nil, List.cons_append, List.append_assoc, List.nil_append, List.append_nil]) ?_
  have hML26 : ML E fz14 lm (List.set (nM P) k (Prod.fst (settle (List.length (nM P)) ((nNow P) + 1) M (nR P)))) wm (pre ++ (w113 ++ (post))) := hMc _ _ _ h7 h19
  generalize (pre ++ (w113 ++ (post))) = wM27 at hML26 ⊢
  refine g_pk [7, 2, 2, 0, 0, 0, 0, 0] rfl ?_
  refine g_cs (cs1 := [[(o, ob 0 [.ref n])], [(n, ob 1 [.ref lm, .ref lb, .ref lr, .int (Prod.snd (toAll (mMore M) (mN M) (pB (nB P) (nLo P)) (List.length (nM P)))), .int ((nNow P) + 1)])], wm, wM27, w26, wr, w214, fz14]) rfl ?_
  refine g_iret hX (pc := 54) hR ?_ (by omega) (by omega) dX1_beat_54
  rw [oBeat_e hM]
  exact ⟨_, _, _, _, h7, hML26, h18, h20, rfl, rfl⟩

set_option maxHeartbeats 4000000 in
theorem mt_Q_deliver (E : EE) (l : Launch) (o : Nat) (n : Nat) (lm : Nat) (lb : Nat) (lr : Nat) (P : PN) (wm : va_W) (wM : va_W) (wb : va_W) (wr : va_W) (wq : va_W) (fz : va_W) (i : Nat) (g : PMg) (b : Nat) (hML : ML E fz lm (nM P) wm wM) (hB : BL E fz lb (nB P) wb) (hRq : RL E lr (nR P) wr wq) (hP : (nOK b P)) (hb : (b ≤ 32)) (hi : ((nB P)[i]? = some g)) : Mt E l yX1_deliver cX1_deliver 2 (some .int) 12 (16 + 22 * nLeads (nTick P) g) (321 + 542 * nLeads (nTick P) g) 289 [.ref o, .int (nI i)] [[(o, ob 0 [.ref n])], [(n, ob 1 [.ref lm, .ref lb, .ref lr, .int (nLo P), .int (nNow P)])], wm, wM, wb, wr, wq, fz] (fun (v_ : Option Value) (cs_ : List va_W) => ∃ (fz1 : va_W) (w1 : va_W) (w2 : va_W) (w3 : va_W), Ext E fz fz1 ∧ ML E fz1 lm (nM (nDeliver (nTick P) i g)) wm w1 ∧ BL E fz1 lb (nB (nDeliver (nTick P) i g)) w2 ∧ RL E lr (nR (nDeliver (nTick P) i g)) wr w3 ∧ v_ = some (.int (nI (gT g))) ∧ cs_ = [[(o, ob 0 [.ref n])], [(n, ob 1 [.ref lm, .ref lb, .ref lr, .int (nLo (nDeliver (nTick P) i g)), .int (nNow (nDeliver (nTick P) i g))])], wm, w1, w2, wr, w3, fz1]) := by
  obtain ⟨bas, a, hAb, hbl, hba, hg, hbo, hBc⟩ := bl_focus hB hi
  have hn30 : bas.length ≤ 30 := by rw [hbl]; exact hP.2.1
  obtain ⟨⟨q1, q2, q3⟩, ⟨q4, q5⟩, q6, q7⟩ := hP.2.2.2.2 g (List.mem_of_getElem? hi)
  refine Mt.of (by decide) (Nat.le_of_ble_eq_true rfl) (fun X hX hR hin => ?_)
  refine g_lv1 (lv1 := [(0, .ref o), (1, .int (nI i))]) rfl ?_
  refine g_aload_n hX (pc := 0) dX1_deliver_0 0 rfl ?_
  refine g_iload_n hX (pc := 1) dX1_deliver_1 1 rfl ?_
  refine g_callV hX (pc := 2) kX1_messageAt (mt_Q_messageAt E l o n lm lb lr (nLo P) (nNow P) bas wb fz i a g hAb (hba) (hn30) hg) q1400 fcX1 (sp_mem (i := 0) rfl) [0, 0, 2, 4] rfl rfl rfl (Nat.le_of_ble_eq_true rfl) (Nat.le_of_ble_eq_true rfl) (Nat.le_of_ble_eq_true rfl) (by omega) (by omega) dX1_deliver_2 (fun v w1 hp => ?_)
  obtain ⟨rfl, rfl⟩ := hp
  refine g_nrm (cs1 := [[(o, ob 0 [.ref n])], [(n, ob 1 [.ref lm, .ref lb, .ref lr, .int (nLo P), .int (nNow P)])], wb, fz, wm, wM, wr, wq]) (st1 := [.ref a]) rfl rfl ?_
  refine g_pop hX (pc := 5) dX1_deliver_5 rfl ?_
  refine g_aload_n hX (pc := 6) dX1_deliver_6 0 rfl ?_
  refine g_get hX (pc := 7) fcX1 0 rfl 0 (by decide) q176 rfl (v := .ref n) rfl dX1_deliver_7 ?_
  refine g_dup hX (pc := 10) dX1_deliver_10 rfl ?_
  refine g_getN hX (pc := 11) fcX2 1 rfl 4 (by decide) q164 rfl (v := .int (nNow P)) rfl dX1_deliver_11 ?_
  refine g_iconst hX (pc := 14) (v := 1) dX1_deliver_14 (by decide) ?_
  refine g_iadd hX (pc := 15) dX1_deliver_15 ?_
  refine g_putN hX (pc := 16) fcX2 1 (fs1 := [.ref lm, .ref lb, .ref lr, .int (nLo P), .int ((nNow P) + 1)]) (cs1 := [[(o, ob 0 [.ref n])], [(n, ob 1 [.ref lm, .ref lb, .ref lr, .int (nLo P), .int ((nNow P) + 1)])], wb, fz, wm, wM, wr, wq]) rfl 4 (by decide) q164 rfl rfl rfl rfl (Nat.le_of_ble_eq_true rfl) rfl rfl dX1_deliver_16 ?_
  refine g_cs (cs1 := [[(o, ob 0 [.ref n])], [(n, ob 1 [.ref lm, .ref lb, .ref lr, .int (nLo (nTick P)), .int (nNow (nTick P))])], wb, fz, wm, wM, wr, wq]) (rfl) ?_
  have h1 : ML E fz lm (nM (nTick P)) wm wM := hML
  have h2 : BL E fz lb (nB (nTick P)) wb := hB
  have h3 : RL E lr (nR (nTick P)) wr wq := hRq
  refine g_aload_n hX (pc := 19) dX1_deliver_19 0 rfl ?_
  refine g_get hX (pc := 20) fcX1 0 rfl 0 (by decide) q176 rfl (v := .ref n) rfl dX1_deliver_20 ?_
  refine g_iload_n hX (pc := 23) dX1_deliver_23 1 rfl ?_
  refine g_callV hX (pc := 24) kX2_deliver (mt_Net_deliver E l n lm lb lr (nTick P) wm wM wb wr wq fz i g b h1 h2 h3 (hP) (hb) (hi)) q1404 fcX2 (sp_mem (i := 1) rfl) [1, 3, 3, 1, 2, 2, 1] rfl rfl rfl (Nat.le_of_ble_eq_true rfl) (Nat.le_of_ble_eq_true rfl) (Nat.le_of_ble_eq_true rfl) (by omega) (by omega) dX1_deliver_24 (fun v w1 hp => ?_)
  obtain ⟨fz14, w15, w26, w37, h8, h9, h10, h11, rfl, rfl⟩ := hp
  refine g_nrm (cs1 := [[(n, ob 1 [.ref lm, .ref lb, .ref lr, .int (nLo (nDeliver (nTick P) i g)), .int (nNow (nDeliver (nTick P) i g))])], wm, w15, w26, wr, w37, fz14, [(o, ob 0 [.ref n])]]) (st1 := [.int (nI (gT g))]) rfl rfl ?_
  have h12 := ML.mono h8 h1
  have h13 := BL.mono h8 h2
  have h14 := MsgIn.mono h8 hg
  refine g_pk [7, 0, 0, 0, 0, 0, 0, 0] rfl ?_
  refine g_cs (cs1 := [[(o, ob 0 [.ref n])], [(n, ob 1 [.ref lm, .ref lb, .ref lr, .int (nLo (nDeliver (nTick P) i g)), .int (nNow (nDeliver (nTick P) i g))])], wm, w15, w26, wr, w37, fz14]) rfl ?_
  refine g_iret hX (pc := 27) hR ?_ (by omega) (by omega) dX1_deliver_27
  exact ⟨_, _, _, _, h8, h9, h10, h11, rfl, rfl⟩

set_option maxHeartbeats 4000000 in
theorem mt_Q_deliverAll (E : EE) (l : Launch) (o : Nat) (n : Nat) (lm : Nat) (lb : Nat) (lr : Nat) (P : PN) (wm : va_W) (wM : va_W) (wb : va_W) (wr : va_W) (wq : va_W) (fz : va_W) (most : Nat) (hML : ML E fz lm (nM P) wm wM) (hB : BL E fz lb (nB P) wb) (hRq : RL E lr (nR P) wr wq) (hP : (nInv 32 P)) (hm : (1 ≤ most ∧ most ≤ 60)) : Mt E l yX1_deliverAll cX1_deliverAll 2 (some .int) 13 (16 * nAllN most (nTick P) + 22 * nAllL most (nTick P)) (321 * nAllN most (nTick P) + 542 * nAllL most (nTick P)) 311 [.ref o, .int (nI most)] [[(o, ob 0 [.ref n])], [(n, ob 1 [.ref lm, .ref lb, .ref lr, .int (nLo P), .int (nNow P)])], wm, wM, wb, wr, wq, fz] (fun (v_ : Option Value) (cs_ : List va_W) => ∃ (fz1 : va_W) (w1 : va_W) (w2 : va_W) (w3 : va_W), Ext E fz fz1 ∧ ML E fz1 lm (nM (nAll most (nTick P))) wm w1 ∧ BL E fz1 lb (nB (nAll most (nTick P))) w2 ∧ RL E lr (nR (nAll most (nTick P))) wr w3 ∧ v_ = some (.int (nI (nAllN most (nTick P)))) ∧ cs_ = [[(o, ob 0 [.ref n])], [(n, ob 1 [.ref lm, .ref lb, .ref lr, .int (nLo (nAll most (nTick P))), .int (nNow (nAll most (nTick P)))])], wm, w1, w2, wr, w3, fz1]) := by
  refine Mt.of (by decide) (Nat.le_of_ble_eq_true rfl) (fun X hX hR hin => ?_)
  refine g_lv1 (lv1 := [(0, .ref o), (1, .int (nI most))]) rfl ?_
  refine g_iload_n hX (pc := 0) dX1_deliverAll_0 1 rfl ?_
  refine g_iconst hX (pc := 1) (v := 1) dX1_deliverAll_1 (by decide) ?_
  refine g_bipush hX (pc := 2) (v := 60) dX1_deliverAll_2 (by decide) ?_
  refine g_callS hX (pc := 4) kX1_mustBeIn (mt_mustBeIn E l (nI most) 1 60 (show ¬ nI most < nI 1 from nI_nlt hm.1 (by omega)) (show ¬ nI 60 < nI most from nI_nlt hm.2 (by omega))) q1308 [] rfl rfl rfl (Nat.le_of_ble_eq_true rfl) (Nat.le_of_ble_eq_true rfl) (Nat.le_of_ble_eq_true rfl) (by omega) (by omega) dX1_deliverAll_4 (fun v w1 hp => ?_)
  obtain ⟨rfl, rfl⟩ := hp
  refine g_nrm (cs1 := [[(o, ob 0 [.ref n])], [(n, ob 1 [.ref lm, .ref lb, .ref lr, .int (nLo P), .int (nNow P)])], wm, wM, wb, wr, wq, fz]) (st1 := []) rfl rfl ?_
  refine g_aload_n hX (pc := 7) dX1_deliverAll_7 0 rfl ?_
  refine g_get hX (pc := 8) fcX1 0 rfl 0 (by decide) q176 rfl (v := .ref n) rfl dX1_deliverAll_8 ?_
  refine g_dup hX (pc := 11) dX1_deliverAll_11 rfl ?_
  refine g_getN hX (pc := 12) fcX2 1 rfl 4 (by decide) q164 rfl (v := .int (nNow P)) rfl dX1_deliverAll_12 ?_
  refine g_iconst hX (pc := 15) (v := 1) dX1_deliverAll_15 (by decide) ?_
  refine g_iadd hX (pc := 16) dX1_deliverAll_16 ?_
  refine g_putN hX (pc := 17) fcX2 1 (fs1 := [.ref lm, .ref lb, .ref lr, .int (nLo P), .int ((nNow P) + 1)]) (cs1 := [[(o, ob 0 [.ref n])], [(n, ob 1 [.ref lm, .ref lb, .ref lr, .int (nLo P), .int ((nNow P) + 1)])], wm, wM, wb, wr, wq, fz]) rfl 4 (by decide) q164 rfl rfl rfl rfl (Nat.le_of_ble_eq_true rfl) rfl rfl dX1_deliverAll_17 ?_
  refine g_cs (cs1 := [[(o, ob 0 [.ref n])], [(n, ob 1 [.ref lm, .ref lb, .ref lr, .int (nLo (nTick P)), .int (nNow (nTick P))])], wm, wM, wb, wr, wq, fz]) (rfl) ?_
  have h1 : ML E fz lm (nM (nTick P)) wm wM := hML
  have h2 : BL E fz lb (nB (nTick P)) wb := hB
  have h3 : RL E lr (nR (nTick P)) wr wq := hRq
  refine g_aload_n hX (pc := 20) dX1_deliverAll_20 0 rfl ?_
  refine g_get hX (pc := 21) fcX1 0 rfl 0 (by decide) q176 rfl (v := .ref n) rfl dX1_deliverAll_21 ?_
  refine g_iload_n hX (pc := 24) dX1_deliverAll_24 1 rfl ?_
  refine g_callV hX (pc := 25) kX2_deliverAll (mt_Net_deliverAll E l n lm lb lr (nTick P) wm wM wb wr wq fz most h1 h2 h3 (hP) (by omega)) q1179 fcX2 (sp_mem (i := 1) rfl) [1, 1, 1, 1, 1, 1, 1] rfl rfl rfl (Nat.le_of_ble_eq_true rfl) (Nat.le_of_ble_eq_true rfl) (Nat.le_of_ble_eq_true rfl) (by omega) (by omega) dX1_deliverAll_25 (fun v w1 hp => ?_)
  obtain ⟨fz14, w15, w26, w37, h8, h9, h10, h11, rfl, rfl⟩ := hp
  refine g_nrm (cs1 := [[(n, ob 1 [.ref lm, .ref lb, .ref lr, .int (nLo (nAll most (nTick P))), .int (nNow (nAll most (nTick P)))])], wm, w15, w26, wr, w37, fz14, [(o, ob 0 [.ref n])]]) (st1 := [.int (nI (nAllN most (nTick P)))]) rfl rfl ?_
  have h12 := ML.mono h8 h1
  have h13 := BL.mono h8 h2
  refine g_pk [7, 0, 0, 0, 0, 0, 0, 0] rfl ?_
  refine g_cs (cs1 := [[(o, ob 0 [.ref n])], [(n, ob 1 [.ref lm, .ref lb, .ref lr, .int (nLo (nAll most (nTick P))), .int (nNow (nAll most (nTick P)))])], wm, w15, w26, wr, w37, fz14]) rfl ?_
  refine g_iret hX (pc := 28) hR ?_ (by omega) (by omega) dX1_deliverAll_28
  exact ⟨_, _, _, _, h8, h9, h10, h11, rfl, rfl⟩

set_option maxHeartbeats 4000000 in
theorem mt_Q_drop (E : EE) (l : Launch) (o : Nat) (n : Nat) (lm : Nat) (lb : Nat) (lr : Nat) (P : PN) (wm : va_W) (wM : va_W) (wb : va_W) (wr : va_W) (wq : va_W) (fz : va_W) (i : Nat) (g : PMg) (b : Nat) (hML : ML E fz lm (nM P) wm wM) (hB : BL E fz lb (nB P) wb) (hRq : RL E lr (nR P) wr wq) (hP : (nOK b P)) (hb : (b ≤ 32)) (hi : ((nB P)[i]? = some g)) : Mt E l yX1_drop cX1_drop 3 (some .int) 5 0 0 86 [.ref o, .int (nI i)] [[(o, ob 0 [.ref n])], [(n, ob 1 [.ref lm, .ref lb, .ref lr, .int (nLo P), .int (nNow P)])], wm, wM, wb, wr, wq, fz] (fun (v_ : Option Value) (cs_ : List va_W) => ∃ (fz1 : va_W) (w1 : va_W) (w2 : va_W) (w3 : va_W), Ext E fz fz1 ∧ ML E fz1 lm (nM (oDrop P i)) wm w1 ∧ BL E fz1 lb (nB (oDrop P i)) w2 ∧ RL E lr (nR (oDrop P i)) wr w3 ∧ v_ = some (.int (nI (gW g))) ∧ cs_ = [[(o, ob 0 [.ref n])], [(n, ob 1 [.ref lm, .ref lb, .ref lr, .int (nLo (oDrop P i)), .int (nNow (oDrop P i))])], wm, w1, w2, wr, w3, fz1]) := by
  obtain ⟨bas, a, hAb, hbl, hba, hg, hbo, hBc⟩ := bl_focus hB hi
  have hn30 : bas.length ≤ 30 := by rw [hbl]; exact hP.2.1
  obtain ⟨⟨q1, q2, q3⟩, ⟨q4, q5⟩, q6, q7⟩ := hP.2.2.2.2 g (List.mem_of_getElem? hi)
  refine Mt.of (by decide) (Nat.le_of_ble_eq_true rfl) (fun X hX hR hin => ?_)
  refine g_lv1 (lv1 := [(0, .ref o), (1, .int (nI i))]) rfl ?_
  refine g_aload_n hX (pc := 0) dX1_drop_0 0 rfl ?_
  refine g_iload_n hX (pc := 1) dX1_drop_1 1 rfl ?_
  refine g_callV hX (pc := 2) kX1_messageAt (mt_Q_messageAt E l o n lm lb lr (nLo P) (nNow P) bas wb fz i a g hAb (hba) (hn30) hg) q1400 fcX1 (sp_mem (i := 0) rfl) [0, 0, 2, 4] rfl rfl rfl (Nat.le_of_ble_eq_true rfl) (Nat.le_of_ble_eq_true rfl) (Nat.le_of_ble_eq_true rfl) (by omega) (by omega) dX1_drop_2 (fun v w1 hp => ?_)
  obtain ⟨rfl, rfl⟩ := hp
  refine g_nrm (cs1 := [[(o, ob 0 [.ref n])], [(n, ob 1 [.ref lm, .ref lb, .ref lr, .int (nLo P), .int (nNow P)])], wb, fz, wm, wM, wr, wq]) (st1 := [.ref a]) rfl rfl ?_
  refine g_astore_n hX (pc := 5) (lv1 := [(2, .ref a), (0, .ref o), (1, .int (nI i))]) dX1_drop_5 (by decide) rfl ?_
  refine g_aload_n hX (pc := 6) dX1_drop_6 1 rfl ?_
  refine g_get hX (pc := 7) fcX1 0 rfl 0 (by decide) q176 rfl (v := .ref n) rfl dX1_drop_7 ?_
  refine g_dup hX (pc := 10) dX1_drop_10 rfl ?_
  refine g_getN hX (pc := 11) fcX2 1 rfl 4 (by decide) q164 rfl (v := .int (nNow P)) rfl dX1_drop_11 ?_
  refine g_iconst hX (pc := 14) (v := 1) dX1_drop_14 (by decide) ?_
  refine g_iadd hX (pc := 15) dX1_drop_15 ?_
  refine g_putN hX (pc := 16) fcX2 1 (fs1 := [.ref lm, .ref lb, .ref lr, .int (nLo P), .int ((nNow P) + 1)]) (cs1 := [[(o, ob 0 [.ref n])], [(n, ob 1 [.ref lm, .ref lb, .ref lr, .int (nLo P), .int ((nNow P) + 1)])], wb, fz, wm, wM, wr, wq]) rfl 4 (by decide) q164 rfl rfl rfl rfl (Nat.le_of_ble_eq_true rfl) rfl rfl dX1_drop_16 ?_
  refine g_aload_n hX (pc := 19) dX1_drop_19 1 rfl ?_
  refine g_get hX (pc := 20) fcX1 0 rfl 0 (by decide) q176 rfl (v := .ref n) rfl dX1_drop_20 ?_
  refine g_getN hX (pc := 23) fcX2 1 rfl 1 (by decide) q158 rfl (v := .ref lb) rfl dX1_drop_23 ?_
  refine g_iload_n hX (pc := 26) dX1_drop_26 2 rfl ?_
  obtain ⟨fs1, hm2⟩ := AL.head hAb
  refine g_callF hX (pc := 27) kfJ2_remove (mt_AL_remove E l lb bas wb i a fz hAb (hba) (hbo)) q1420 fcJ2 (sp_in 2 rfl hm2) [2, 2] rfl rfl rfl (Nat.le_of_ble_eq_true rfl) (Nat.le_of_ble_eq_true rfl) (Nat.le_of_ble_eq_true rfl) (by omega) (by omega) dX1_drop_27 (fun v w1 hp => ?_)
  obtain ⟨w13, h4, rfl, rfl⟩ := hp
  refine g_nrm (cs1 := [w13, fz, [(o, ob 0 [.ref n])], [(n, ob 1 [.ref lm, .ref lb, .ref lr, .int (nLo P), .int ((nNow P) + 1)])], wm, wM, wr, wq]) (st1 := [.ref a]) rfl rfl ?_
  have hB5 : BL E fz lb (List.eraseIdx (nB P) i) w13 := hBc _ h4
  refine g_pop hX (pc := 32) dX1_drop_32 rfl ?_
  refine g_aload_n hX (pc := 33) dX1_drop_33 1 rfl ?_
  refine g_get hX (pc := 34) fcX1 2 rfl 0 (by decide) q176 rfl (v := .ref n) rfl dX1_drop_34 ?_
  refine g_dup hX (pc := 37) dX1_drop_37 rfl ?_
  refine g_getN hX (pc := 38) fcX2 3 rfl 3 (by decide) q162 rfl (v := .int (nLo P)) rfl dX1_drop_38 ?_
  refine g_iconst hX (pc := 41) (v := 1) dX1_drop_41 (by decide) ?_
  refine g_iadd hX (pc := 42) dX1_drop_42 ?_
  refine g_putN hX (pc := 43) fcX2 3 (fs1 := [.ref lm, .ref lb, .ref lr, .int ((nLo P) + 1), .int ((nNow P) + 1)]) (cs1 := [w13, fz, [(o, ob 0 [.ref n])], [(n, ob 1 [.ref lm, .ref lb, .ref lr, .int ((nLo P) + 1), .int ((nNow P) + 1)])], wm, wM, wr, wq]) rfl 3 (by decide) q162 rfl rfl rfl rfl (Nat.le_of_ble_eq_true rfl) rfl rfl dX1_drop_43 ?_
  obtain ⟨ra, sp, ges, f, hg1, -⟩ := MsgIn.out hg
  refine g_aload_n hX (pc := 46) dX1_drop_46 0 rfl ?_
  refine g_getNm hX (pc := 47) fcX13 (sp_in 1 rfl hg1) 0 (by decide) q1057 rfl (v := .ref (aW E (gW g))) rfl dX1_drop_47 ?_
  refine g_callU hX (pc := 50) (C := "Quorumspire$Word") (owner := "java/lang/Enum") (x := ⟨"Quorumspire$Word", "ordinal", "()I"⟩) (y := yJ11_ordinal) (n := 0) q804 q803 q802 q91 q800 rfl ⟨by decide +kernel, by decide +kernel, by decide +kernel⟩ (mt_ordW E l (gW g) (by omega)) q1421 (fun H locs hP hS => va_recvE (cx_gs hX).2.1 (i := (gW g)) (by show _ < 5; omega) hS) [] rfl rfl rfl (Nat.le_of_ble_eq_true rfl) (Nat.le_of_ble_eq_true rfl) (Nat.le_of_ble_eq_true rfl) (by omega) (by omega) dX1_drop_50 (fun v w1 hp => ?_)
  obtain ⟨rfl, rfl⟩ := hp
  refine g_nrm (cs1 := [w13, fz, [(o, ob 0 [.ref n])], [(n, ob 1 [.ref lm, .ref lb, .ref lr, .int ((nLo P) + 1), .int ((nNow P) + 1)])], wm, wM, wr, wq]) (st1 := [.int (nI (gW g))]) rfl rfl ?_
  refine g_pk [2, 2, 2, 2, 0, 1, 1, 0] rfl ?_
  refine g_cs (cs1 := [[(o, ob 0 [.ref n])], [(n, ob 1 [.ref lm, .ref lb, .ref lr, .int ((nLo P) + 1), .int ((nNow P) + 1)])], wm, wM, w13, wr, wq, fz]) rfl ?_
  refine g_iret hX (pc := 53) hR ?_ (by omega) (by omega) dX1_drop_53
  exact ⟨_, _, _, _, Ext.rfl', hML, hB5, hRq, rfl, rfl⟩

set_option maxHeartbeats 4000000 in
theorem mt_Q_twice (E : EE) (l : Launch) (o : Nat) (n : Nat) (lm : Nat) (lb : Nat) (lr : Nat) (P : PN) (wm : va_W) (wM : va_W) (wb : va_W) (wr : va_W) (wq : va_W) (fz : va_W) (i : Nat) (g : PMg) (b : Nat) (hML : ML E fz lm (nM P) wm wM) (hB : BL E fz lb (nB P) wb) (hRq : RL E lr (nR P) wr wq) (hP : (nOK b P)) (hb : (b ≤ 32)) (hi : ((nB P)[i]? = some g)) : Mt E l yX1_twice cX1_twice 3 (some .int) 8 1 70 192 [.ref o, .int (nI i)] [[(o, ob 0 [.ref n])], [(n, ob 1 [.ref lm, .ref lb, .ref lr, .int (nLo P), .int (nNow P)])], wm, wM, wb, wr, wq, fz] (fun (v_ : Option Value) (cs_ : List va_W) => ∃ (fz1 : va_W) (w1 : va_W) (w2 : va_W) (w3 : va_W), Ext E fz fz1 ∧ ML E fz1 lm (nM (oTwice P g)) wm w1 ∧ BL E fz1 lb (nB (oTwice P g)) w2 ∧ RL E lr (nR (oTwice P g)) wr w3 ∧ v_ = some (.int (nI (List.length (nB (oTwice P g))))) ∧ cs_ = [[(o, ob 0 [.ref n])], [(n, ob 1 [.ref lm, .ref lb, .ref lr, .int (nLo (oTwice P g)), .int (nNow (oTwice P g))])], wm, w1, w2, wr, w3, fz1]) := by
  obtain ⟨bas, a, hAb, hbl, hba, hg, hbo, hBc⟩ := bl_focus hB hi
  have hn30 : bas.length ≤ 30 := by rw [hbl]; exact hP.2.1
  obtain ⟨⟨q1, q2, q3⟩, ⟨q4, q5⟩, q6, q7⟩ := hP.2.2.2.2 g (List.mem_of_getElem? hi)
  refine Mt.of (by decide) (Nat.le_of_ble_eq_true rfl) (fun X hX hR hin => ?_)
  refine g_lv1 (lv1 := [(0, .ref o), (1, .int (nI i))]) rfl ?_
  refine g_aload_n hX (pc := 0) dX1_twice_0 0 rfl ?_
  refine g_iload_n hX (pc := 1) dX1_twice_1 1 rfl ?_
  refine g_callV hX (pc := 2) kX1_messageAt (mt_Q_messageAt E l o n lm lb lr (nLo P) (nNow P) bas wb fz i a g hAb (hba) (hn30) hg) q1400 fcX1 (sp_mem (i := 0) rfl) [0, 0, 2, 4] rfl rfl rfl (Nat.le_of_ble_eq_true rfl) (Nat.le_of_ble_eq_true rfl) (Nat.le_of_ble_eq_true rfl) (by omega) (by omega) dX1_twice_2 (fun v w1 hp => ?_)
  obtain ⟨rfl, rfl⟩ := hp
  refine g_nrm (cs1 := [[(o, ob 0 [.ref n])], [(n, ob 1 [.ref lm, .ref lb, .ref lr, .int (nLo P), .int (nNow P)])], wb, fz, wm, wM, wr, wq]) (st1 := [.ref a]) rfl rfl ?_
  refine g_astore_n hX (pc := 5) (lv1 := [(2, .ref a), (0, .ref o), (1, .int (nI i))]) dX1_twice_5 (by decide) rfl ?_
  refine g_aload_n hX (pc := 6) dX1_twice_6 1 rfl ?_
  refine g_get hX (pc := 7) fcX1 0 rfl 0 (by decide) q176 rfl (v := .ref n) rfl dX1_twice_7 ?_
  refine g_dup hX (pc := 10) dX1_twice_10 rfl ?_
  refine g_getN hX (pc := 11) fcX2 1 rfl 4 (by decide) q164 rfl (v := .int (nNow P)) rfl dX1_twice_11 ?_
  refine g_iconst hX (pc := 14) (v := 1) dX1_twice_14 (by decide) ?_
  refine g_iadd hX (pc := 15) dX1_twice_15 ?_
  refine g_putN hX (pc := 16) fcX2 1 (fs1 := [.ref lm, .ref lb, .ref lr, .int (nLo P), .int ((nNow P) + 1)]) (cs1 := [[(o, ob 0 [.ref n])], [(n, ob 1 [.ref lm, .ref lb, .ref lr, .int (nLo P), .int ((nNow P) + 1)])], wb, fz, wm, wM, wr, wq]) rfl 4 (by decide) q164 rfl rfl rfl rfl (Nat.le_of_ble_eq_true rfl) rfl rfl dX1_twice_16 ?_
  have hB1 : BL E fz lb (Prod.fst (pB (nB P) (nLo P))) wb := hB
  refine g_cs (cs1 := [[(o, ob 0 [.ref n])], [(n, ob 1 [.ref lm, .ref lb, .ref lr, .int (Prod.snd (pB (nB P) (nLo P))), .int ((nNow P) + 1)])], wb, fz, wm, wM, wr, wq]) (rfl) ?_
  refine g_aload_n hX (pc := 19) dX1_twice_19 1 rfl ?_
  refine g_get hX (pc := 20) fcX1 0 rfl 0 (by decide) q176 rfl (v := .ref n) rfl dX1_twice_20 ?_
  refine g_aload_n hX (pc := 23) dX1_twice_23 0 rfl ?_
  refine g_callV hX (pc := 24) kX2_send (mt_Net_send E l n lm lb lr ((nNow P) + 1) (pB (nB P) (nLo P)) wb fz a g hB1 hg (by show (nB P).length ≤ 30; exact hP.2.1)) q1429 fcX2 (sp_mem (i := 1) rfl) [1, 1, 1] rfl rfl rfl (Nat.le_of_ble_eq_true rfl) (Nat.le_of_ble_eq_true rfl) (Nat.le_of_ble_eq_true rfl) (by omega) (by omega) dX1_twice_24 (fun v w1 hp => ?_)
  obtain ⟨w12, h3, rfl, rfl⟩ := hp
  refine g_nrm (cs1 := [[(n, ob 1 [.ref lm, .ref lb, .ref lr, .int (Prod.snd (bSend (pB (nB P) (nLo P)) g)), .int ((nNow P) + 1)])], w12, fz, [(o, ob 0 [.ref n])], wm, wM, wr, wq]) (st1 := []) rfl rfl ?_
  refine g_aload_n hX (pc := 27) dX1_twice_27 1 rfl ?_
  refine g_get hX (pc := 28) fcX1 3 rfl 0 (by decide) q176 rfl (v := .ref n) rfl dX1_twice_28 ?_
  refine g_getN hX (pc := 31) fcX2 0 rfl 1 (by decide) q158 rfl (v := .ref lb) rfl dX1_twice_31 ?_
  obtain ⟨as4, hal5, hln6⟩ := BL.al h3
  obtain ⟨fs7, hm8⟩ := AL.head hal5
  refine g_callF hX (pc := 34) kfJ2_size (mt_AL_size E l lb as4 w12 hal5) q738 fcJ2 (sp_in 1 rfl hm8) [1] rfl rfl rfl (Nat.le_of_ble_eq_true rfl) (Nat.le_of_ble_eq_true rfl) (Nat.le_of_ble_eq_true rfl) (by omega) (by omega) dX1_twice_34 (fun v w1 hp => ?_)
  obtain ⟨rfl, rfl⟩ := hp
  refine g_nrm (cs1 := [w12, [(n, ob 1 [.ref lm, .ref lb, .ref lr, .int (Prod.snd (bSend (pB (nB P) (nLo P)) g)), .int ((nNow P) + 1)])], fz, [(o, ob 0 [.ref n])], wm, wM, wr, wq]) (st1 := [.int (nI (List.length as4))]) rfl rfl ?_
  refine g_eqi (nI (List.length (Prod.fst (bSend (pB (nB P) (nLo P)) g)))) (by rw [hln6]) ?_
  refine g_pk [3, 1, 2, 2, 0, 1, 1, 0] rfl ?_
  refine g_cs (cs1 := [[(o, ob 0 [.ref n])], [(n, ob 1 [.ref lm, .ref lb, .ref lr, .int (Prod.snd (bSend (pB (nB P) (nLo P)) g)), .int ((nNow P) + 1)])], wm, wM, w12, wr, wq, fz]) rfl ?_
  refine g_iret hX (pc := 39) hR ?_ (by omega) (by omega) dX1_twice_39
  exact ⟨_, _, _, _, Ext.rfl', hML, h3, hRq, rfl, rfl⟩

set_option maxHeartbeats 4000000 in
theorem mt_Q_send (E : EE) (l : Launch) (o : Nat) (n : Nat) (lm : Nat) (lb : Nat) (lr : Nat) (P : PN) (wm : va_W) (wM : va_W) (wb : va_W) (wr : va_W) (wq : va_W) (fz : va_W) (k : Nat) (M : PM) (b : Nat) (j : Nat) (r : PR) (hML : ML E fz lm (nM P) wm wM) (hB : BL E fz lb (nB P) wb) (hRq : RL E lr (nR P) wr wq) (hP : (nOK b P)) (hb : (b ≤ 32)) (hM : ((nM P)[k]? = some M)) (hu : (¬ mR M = 0)) (hj : ((nR P)[j]? = some r)) : Mt E l yX1_send cX1_send 4 (some .int) 11 8 221 260 [.ref o, .int (nI j), .int (nI k)] [[(o, ob 0 [.ref n])], [(n, ob 1 [.ref lm, .ref lb, .ref lr, .int (nLo P), .int (nNow P)])], wm, wM, wb, wr, wq, fz] (fun (v_ : Option Value) (cs_ : List va_W) => ∃ (fz1 : va_W) (w1 : va_W) (w2 : va_W) (w3 : va_W), Ext E fz fz1 ∧ ML E fz1 lm (nM (oGive P k j)) wm w1 ∧ BL E fz1 lb (nB (oGive P k j)) w2 ∧ RL E lr (nR (oGive P k j)) wr w3 ∧ v_ = some (.int (Prod.snd (xGive P k j))) ∧ cs_ = [[(o, ob 0 [.ref n])], [(n, ob 1 [.ref lm, .ref lb, .ref lr, .int (nLo (oGive P k j)), .int (nNow (oGive P k j))])], wm, w1, w2, wr, w3, fz1]) := by
  obtain ⟨mas, m, wk, pre, post, hAm, hml, hmk, hMk, rfl, hMc⟩ := ml_focus hML hM
  have hl5 : mas.length ≤ 5 := by rw [hml]; exact hP.1
  have hkl : k < (nM P).length := (List.getElem?_eq_some_iff.mp hM).1
  have hn30 : (nB P).length ≤ 30 := hP.2.1
  have hrq2 := hP.2.2.1
  have h40 := hrq2.1
  obtain ⟨m1, m2, m3⟩ := hP.2.2.2.1 _ _ hM
  rw [← hml] at m1
  obtain ⟨⟨o1, o2⟩, ⟨o3, o4⟩, ⟨o5, o6, o7, o8⟩, ⟨o9, o10⟩, o11, o12⟩ := m1
  have m1 : mOK mas.length (nR P).length b M := ⟨⟨o1, o2⟩, ⟨o3, o4⟩, ⟨o5, o6, o7, o8⟩, ⟨o9, o10⟩, o11, o12⟩
  have hll : lLast (mL M) = lB (mL M) + (lE (mL M)).length := rfl
  have hlv : lLast (mV M) = lB (mV M) + (lE (mV M)).length := rfl
  obtain ⟨ras, a, hAr, hrl, hra, hrm⟩ := RL.at hRq hj
  refine Mt.of (by decide) (Nat.le_of_ble_eq_true rfl) (fun X hX hR hin => ?_)
  refine g_lv1 (lv1 := [(0, .ref o), (1, .int (nI j)), (2, .int (nI k))]) rfl ?_
  refine g_fl (cs1 := [[(o, ob 0 [.ref n])], [(n, ob 1 [.ref lm, .ref lb, .ref lr, .int (nLo P), .int (nNow P)])], wm, pre, wk, post, wb, wr, wq, fz]) (by simp only [List.flatten_cons, List.flatten_nil, List.cons_append, List.append_assoc, List.nil_append, List.append_nil]) ?_
  refine g_aload_n hX (pc := 0) dX1_send_0 0 rfl ?_
  refine g_iload_n hX (pc := 1) dX1_send_1 1 rfl ?_
  refine g_callV hX (pc := 2) kX1_requestAt (mt_Q_requestAt E l o n lm lb lr (nLo P) (nNow P) ras wr wq j a r hAr (hra) (by omega) (hrm)) q1437 fcX1 (sp_mem (i := 0) rfl) [0, 0, 5, 5] rfl rfl rfl (Nat.le_of_ble_eq_true rfl) (Nat.le_of_ble_eq_true rfl) (Nat.le_of_ble_eq_true rfl) (by omega) (by omega) dX1_send_2 (fun v w1 hp => ?_)
  obtain ⟨rfl, rfl⟩ := hp
  refine g_nrm (cs1 := [[(o, ob 0 [.ref n])], [(n, ob 1 [.ref lm, .ref lb, .ref lr, .int (nLo P), .int (nNow P)])], wr, wq, wm, pre, wk, post, wb, fz]) (st1 := [.ref a]) rfl rfl ?_
  refine g_pop hX (pc := 5) dX1_send_5 rfl ?_
  refine g_aload_n hX (pc := 6) dX1_send_6 0 rfl ?_
  refine g_iload_n hX (pc := 7) dX1_send_7 2 rfl ?_
  refine g_callV hX (pc := 8) kX1_upAt (mt_Q_upAt E l o n lm lb lr (nLo P) (nNow P) mas wm k m M wk fz hAm hMk (hmk) (hl5) (by omega)) q1380 fcX1 (sp_mem (i := 0) rfl) [0, 0, 2, 3] rfl rfl rfl (Nat.le_of_ble_eq_true rfl) (Nat.le_of_ble_eq_true rfl) (Nat.le_of_ble_eq_true rfl) (by omega) (by omega) dX1_send_8 (fun v w1 hp => ?_)
  obtain ⟨rfl, rfl⟩ := hp
  refine g_nrm (cs1 := [[(o, ob 0 [.ref n])], [(n, ob 1 [.ref lm, .ref lb, .ref lr, .int (nLo P), .int (nNow P)])], wm, wk, wr, wq, pre, post, wb, fz]) (st1 := [.ref m]) rfl rfl ?_
  refine g_astore_n hX (pc := 11) (lv1 := [(3, .ref m), (0, .ref o), (1, .int (nI j)), (2, .int (nI k))]) dX1_send_11 (by decide) rfl ?_
  refine g_aload_n hX (pc := 12) dX1_send_12 1 rfl ?_
  refine g_get hX (pc := 13) fcX1 0 rfl 0 (by decide) q176 rfl (v := .ref n) rfl dX1_send_13 ?_
  refine g_dup hX (pc := 16) dX1_send_16 rfl ?_
  refine g_getN hX (pc := 17) fcX2 1 rfl 4 (by decide) q164 rfl (v := .int (nNow P)) rfl dX1_send_17 ?_
  refine g_iconst hX (pc := 20) (v := 1) dX1_send_20 (by decide) ?_
  refine g_iadd hX (pc := 21) dX1_send_21 ?_
  refine g_putN hX (pc := 22) fcX2 1 (fs1 := [.ref lm, .ref lb, .ref lr, .int (nLo P), .int ((nNow P) + 1)]) (cs1 := [[(o, ob 0 [.ref n])], [(n, ob 1 [.ref lm, .ref lb, .ref lr, .int (nLo P), .int ((nNow P) + 1)])], wm, wk, wr, wq, pre, post, wb, fz]) rfl 4 (by decide) q164 rfl rfl rfl rfl (Nat.le_of_ble_eq_true rfl) rfl rfl dX1_send_22 ?_
  refine g_aload_n hX (pc := 25) dX1_send_25 1 rfl ?_
  refine g_get hX (pc := 26) fcX1 0 rfl 0 (by decide) q176 rfl (v := .ref n) rfl dX1_send_26 ?_
  refine g_iload_n hX (pc := 29) dX1_send_29 2 rfl ?_
  refine g_aload_n hX (pc := 30) dX1_send_30 0 rfl ?_
  refine g_callV hX (pc := 31) kX2_give (mt_Net_give E l n lm lb lr (nLo P) ((nNow P) + 1) mas wm m M wk fz (nR P) wr wq b j r hAm hMk hRq (m1) (hrq2) (hb) (hj)) q1441 fcX2 (sp_mem (i := 1) rfl) [1, 1, 1, 1, 1, 4] rfl rfl rfl (Nat.le_of_ble_eq_true rfl) (Nat.le_of_ble_eq_true rfl) (Nat.le_of_ble_eq_true rfl) (by omega) (by omega) dX1_send_31 (fun v w1 hp => ?_)
  obtain ⟨fz11, w12, w23, h4, h5, h6, rfl, rfl⟩ := hp
  refine g_nrm (cs1 := [[(n, ob 1 [.ref lm, .ref lb, .ref lr, .int (nLo P), .int ((nNow P) + 1)])], wm, w12, wr, w23, fz11, [(o, ob 0 [.ref n])], pre, post, wb]) (st1 := [.int (Prod.snd (pGive (List.length mas) ((nNow P) + 1) M (nR P) j))]) rfl rfl ?_
  have h7 := ML.mono h4 hML
  have h8 := BL.mono h4 hB
  have h9 := IsMach.mono h4 hMk
  refine g_pk [7, 2, 6] rfl ?_
  refine g_cs (cs1 := [pre, w12, post, [(n, ob 1 [.ref lm, .ref lb, .ref lr, .int (nLo P), .int ((nNow P) + 1)])], wm, wr, w23, fz11, [(o, ob 0 [.ref n])], wb]) rfl ?_
  refine g_fl (cs1 := [(pre ++ (w12 ++ (post))), [(n, ob 1 [.ref lm, .ref lb, .ref lr, .int (nLo P), .int ((nNow P) + 1)])], wm, wr, w23, fz11, [(o, ob 0 [.ref n])], wb]) (by simp only [List.flatten_cons, List.flatten_nil, List.cons_append, List.append_assoc, List.nil_append, List.append_nil]) ?_
  have hML10 : ML E fz11 lm (List.set (nM P) k (Prod.fst (Prod.fst (pGive (List.length mas) ((nNow P) + 1) M (nR P) j)))) wm (pre ++ (w12 ++ (post))) := hMc _ _ _ h4 h5
  generalize (pre ++ (w12 ++ (post))) = wM11 at hML10 ⊢
  refine g_pk [6, 1, 1, 0, 3, 0, 0, 0] rfl ?_
  refine g_cs (cs1 := [[(o, ob 0 [.ref n])], [(n, ob 1 [.ref lm, .ref lb, .ref lr, .int (nLo P), .int ((nNow P) + 1)])], wm, wM11, wb, wr, w23, fz11]) rfl ?_
  refine g_iret hX (pc := 34) hR ?_ (by omega) (by omega) dX1_send_34
  have eX : xGive P k j = (pGive (List.length mas) (nNow P + 1) M (nR P) j) := by unfold xGive; rw [mAt_get hM, hml]
  rw [show oGive P k j = ((nM P).set k (pGive (List.length mas) (nNow P + 1) M (nR P) j).1.1, nB P, (pGive (List.length mas) (nNow P + 1) M (nR P) j).1.2, nLo P, nNow P + 1) from by unfold oGive; rw [eX], eX]
  exact ⟨_, _, _, _, h4, hML10, h8, h6, rfl, rfl⟩

set_option maxHeartbeats 4000000 in
theorem mt_Q_quick (E : EE) (l : Launch) (o : Nat) (n : Nat) (lm : Nat) (lb : Nat) (lr : Nat) (P : PN) (wm : va_W) (wM : va_W) (wb : va_W) (wr : va_W) (wq : va_W) (fz : va_W) (k : Nat) (M : PM) (b : Nat) (j : Nat) (r : PR) (hML : ML E fz lm (nM P) wm wM) (hB : BL E fz lb (nB P) wb) (hRq : RL E lr (nR P) wr wq) (hP : (nOK b P)) (hb : (b ≤ 32)) (hM : ((nM P)[k]? = some M)) (hj : ((nR P)[j]? = some r)) (hu : (¬ mR M = 0)) (hkd : (rK r = 1)) (hs : (rSent r = (-1))) : Mt E l yX1_quick cX1_quick 5 (some .int) 6 0 0 107 [.ref o, .int (nI j), .int (nI k)] [[(o, ob 0 [.ref n])], [(n, ob 1 [.ref lm, .ref lb, .ref lr, .int (nLo P), .int (nNow P)])], wm, wM, wb, wr, wq, fz] (fun (v_ : Option Value) (cs_ : List va_W) => ∃ (fz1 : va_W) (w1 : va_W) (w2 : va_W) (w3 : va_W), Ext E fz fz1 ∧ ML E fz1 lm (nM (oQuick P k j)) wm w1 ∧ BL E fz1 lb (nB (oQuick P k j)) w2 ∧ RL E lr (nR (oQuick P k j)) wr w3 ∧ v_ = some (.int (if mR M = 3 then rRes (rQuick M r (nNow P + 1)) else (-1))) ∧ cs_ = [[(o, ob 0 [.ref n])], [(n, ob 1 [.ref lm, .ref lb, .ref lr, .int (nLo (oQuick P k j)), .int (nNow (oQuick P k j))])], wm, w1, w2, wr, w3, fz1]) := by
  obtain ⟨mas, m, wk, pre, post, hAm, hml, hmk, hMk, rfl, hMc⟩ := ml_focus hML hM
  have hl5 : mas.length ≤ 5 := by rw [hml]; exact hP.1
  have hkl : k < (nM P).length := (List.getElem?_eq_some_iff.mp hM).1
  have hn30 : (nB P).length ≤ 30 := hP.2.1
  have hrq2 := hP.2.2.1
  have h40 := hrq2.1
  obtain ⟨m1, m2, m3⟩ := hP.2.2.2.1 _ _ hM
  rw [← hml] at m1
  obtain ⟨⟨o1, o2⟩, ⟨o3, o4⟩, ⟨o5, o6, o7, o8⟩, ⟨o9, o10⟩, o11, o12⟩ := m1
  have m1 : mOK mas.length (nR P).length b M := ⟨⟨o1, o2⟩, ⟨o3, o4⟩, ⟨o5, o6, o7, o8⟩, ⟨o9, o10⟩, o11, o12⟩
  have hll : lLast (mL M) = lB (mL M) + (lE (mL M)).length := rfl
  have hlv : lLast (mV M) = lB (mV M) + (lE (mV M)).length := rfl
  obtain ⟨ras, a, rpre, rpost, hAr, hrl, hra, hwq, hRc⟩ := rl_focus hRq hj
  have hrm : (a, rqC E r) ∈ wq := by rw [hwq]; exact List.mem_append_right _ (List.mem_append_left _ List.mem_cons_self)
  have hky := (hrq2.2 r (List.mem_of_getElem? hj)).2
  refine Mt.of (by decide) (Nat.le_of_ble_eq_true rfl) (fun X hX hR hin => ?_)
  refine g_lv1 (lv1 := [(0, .ref o), (1, .int (nI j)), (2, .int (nI k))]) rfl ?_
  refine g_fl (cs1 := [[(o, ob 0 [.ref n])], [(n, ob 1 [.ref lm, .ref lb, .ref lr, .int (nLo P), .int (nNow P)])], wm, pre, wk, post, wb, wr, wq, fz]) (by simp only [List.flatten_cons, List.flatten_nil, List.cons_append, List.append_assoc, List.nil_append, List.append_nil]) ?_
  refine g_aload_n hX (pc := 0) dX1_quick_0 0 rfl ?_
  refine g_iload_n hX (pc := 1) dX1_quick_1 1 rfl ?_
  refine g_callV hX (pc := 2) kX1_requestAt (mt_Q_requestAt E l o n lm lb lr (nLo P) (nNow P) ras wr wq j a r hAr (hra) (by omega) (hrm)) q1437 fcX1 (sp_mem (i := 0) rfl) [0, 0, 5, 5] rfl rfl rfl (Nat.le_of_ble_eq_true rfl) (Nat.le_of_ble_eq_true rfl) (Nat.le_of_ble_eq_true rfl) (by omega) (by omega) dX1_quick_2 (fun v w1 hp => ?_)
  obtain ⟨rfl, rfl⟩ := hp
  refine g_nrm (cs1 := [[(o, ob 0 [.ref n])], [(n, ob 1 [.ref lm, .ref lb, .ref lr, .int (nLo P), .int (nNow P)])], wr, wq, wm, pre, wk, post, wb, fz]) (st1 := [.ref a]) rfl rfl ?_
  refine g_astore_n hX (pc := 5) (lv1 := [(3, .ref a), (0, .ref o), (1, .int (nI j)), (2, .int (nI k))]) dX1_quick_5 (by decide) rfl ?_
  refine g_aload_n hX (pc := 6) dX1_quick_6 1 rfl ?_
  refine g_iload_n hX (pc := 7) dX1_quick_7 3 rfl ?_
  refine g_callV hX (pc := 8) kX1_machineAt (mt_Q_machineAt E l o n lm lb lr (nLo P) (nNow P) mas wm k m M wk fz hAm hMk (hmk) (hl5)) q1360 fcX1 (sp_mem (i := 0) rfl) [0, 0, 2, 3] rfl rfl rfl (Nat.le_of_ble_eq_true rfl) (Nat.le_of_ble_eq_true rfl) (Nat.le_of_ble_eq_true rfl) (by omega) (by omega) dX1_quick_8 (fun v w1 hp => ?_)
  obtain ⟨rfl, rfl⟩ := hp
  refine g_nrm (cs1 := [[(o, ob 0 [.ref n])], [(n, ob 1 [.ref lm, .ref lb, .ref lr, .int (nLo P), .int (nNow P)])], wm, wk, wr, wq, pre, post, wb, fz]) (st1 := [.ref m]) rfl rfl ?_
  refine g_astore hX (pc := 11) (lv1 := [(4, .ref m), (3, .ref a), (0, .ref o), (1, .int (nI j)), (2, .int (nI k))]) dX1_quick_11 (by decide) rfl ?_
  refine g_aload_n hX (pc := 13) dX1_quick_13 1 rfl ?_
  refine g_getNm hX (pc := 14) fcX12 (sp_in 5 rfl hrm) 1 (by decide) q994 rfl (v := .ref (aK E (rK r))) rfl dX1_quick_14 ?_
  refine g_gets hX (pc := 17) (v := .ref (aK E 1)) ((cx_gs hX).1.1 1 (by decide)).1 q1457 rfl dX1_quick_17 ?_
  refine g_val (v := if (aK E (rK r)) = (aK E 1) then 1 else 0) (pcJ := 28) (st1 := []) (fun hj1 => ?_) ?_
  · refine g_acmp_ner hX (pc := 20) (tgt := 27) dX1_quick_20 rfl (fun c2 => ?_) (fun c2 => ?_)
    · refine g_iconst hX (pc := 27) (v := 0) dX1_quick_27 (by decide) ?_
      exact hj1 _ (by rw [if_neg c2])
    · refine g_iconst hX (pc := 23) (v := 1) dX1_quick_23 (by decide) ?_
      refine g_goto hX (pc := 24) (tgt := 28) dX1_quick_24 rfl ?_
      exact hj1 _ (by rw [if_pos c2])
  refine g_eqi 1 (by rw [if_pos (by rw [hkd])]) ?_
  refine g_callS hX (pc := 28) kX1_must (mt_must E l ) q1311 [] rfl rfl rfl (Nat.le_of_ble_eq_true rfl) (Nat.le_of_ble_eq_true rfl) (Nat.le_of_ble_eq_true rfl) (by omega) (by omega) dX1_quick_28 (fun v w1 hp => ?_)
  obtain ⟨rfl, rfl⟩ := hp
  refine g_nrm (cs1 := [[(o, ob 0 [.ref n])], [(n, ob 1 [.ref lm, .ref lb, .ref lr, .int (nLo P), .int (nNow P)])], wm, wk, wr, wq, pre, post, wb, fz]) (st1 := []) rfl rfl ?_
  refine g_aload hX (pc := 31) dX1_quick_31 0 rfl ?_
  obtain ⟨fs3, hm4⟩ := IsMach.head hMk
  refine g_callV hX (pc := 33) kX9_isUp (mt_Machine_isUpM E l m M wk fz hMk) q1035 fcX9 (sp_in 3 rfl hm4) [3] rfl rfl rfl (Nat.le_of_ble_eq_true rfl) (Nat.le_of_ble_eq_true rfl) (Nat.le_of_ble_eq_true rfl) (by omega) (by omega) dX1_quick_33 (fun v w1 hp => ?_)
  obtain ⟨rfl, rfl⟩ := hp
  refine g_nrm (cs1 := [wk, [(o, ob 0 [.ref n])], [(n, ob 1 [.ref lm, .ref lb, .ref lr, .int (nLo P), .int (nNow P)])], wm, wr, wq, pre, post, wb, fz]) (st1 := [.int (if mR M = 0 then 0 else 1)]) rfl rfl ?_
  refine g_if_eq hX (pc := 36) (tgt := 50) dX1_quick_36 rfl (fun c5_ => ?_) (fun c5_ => ?_)
  · have c5 := z01.mp c5_
    exact absurd c5 hu
  · have c5 := z01n.mp c5_
    refine g_aload_n hX (pc := 39) dX1_quick_39 1 rfl ?_
    refine g_callV hX (pc := 40) kX12_isSent (mt_Request_isSentM E l a r wq (hrm)) q1458 fcX12 (sp_in 5 rfl hrm) [5] rfl rfl rfl (Nat.le_of_ble_eq_true rfl) (Nat.le_of_ble_eq_true rfl) (Nat.le_of_ble_eq_true rfl) (by omega) (by omega) dX1_quick_40 (fun v w1 hp => ?_)
    obtain ⟨rfl, rfl⟩ := hp
    refine g_nrm (cs1 := [wq, wk, [(o, ob 0 [.ref n])], [(n, ob 1 [.ref lm, .ref lb, .ref lr, .int (nLo P), .int (nNow P)])], wm, wr, pre, post, wb, fz]) (st1 := [.int (if rSent r = (-1) then 0 else 1)]) rfl rfl ?_
    refine g_val (v := if rSent r = (-1) then 1 else 0) (pcJ := 51) (st1 := []) (fun hj6 => ?_) ?_
    · refine g_if_ne hX (pc := 43) (tgt := 50) dX1_quick_43 rfl (fun c7_ => ?_) (fun c7_ => ?_)
      · have c7 := z01n.mp c7_
        refine g_iconst hX (pc := 50) (v := 0) dX1_quick_50 (by decide) ?_
        exact hj6 _ (by rw [if_neg c7])
      · have c7 := z01.mp c7_
        refine g_iconst hX (pc := 46) (v := 1) dX1_quick_46 (by decide) ?_
        refine g_goto hX (pc := 47) (tgt := 51) dX1_quick_47 rfl ?_
        exact hj6 _ (by rw [if_pos c7])
    refine g_eqi 1 (if_pos hs) ?_
    refine g_callS hX (pc := 51) kX1_checkState (mt_checkState E l ) q1268 [] rfl rfl rfl (Nat.le_of_ble_eq_true rfl) (Nat.le_of_ble_eq_true rfl) (Nat.le_of_ble_eq_true rfl) (by omega) (by omega) dX1_quick_51 (fun v w1 hp => ?_)
    obtain ⟨rfl, rfl⟩ := hp
    refine g_nrm (cs1 := [wq, wk, [(o, ob 0 [.ref n])], [(n, ob 1 [.ref lm, .ref lb, .ref lr, .int (nLo P), .int (nNow P)])], wm, wr, pre, post, wb, fz]) (st1 := []) rfl rfl ?_
    refine g_aload_n hX (pc := 54) dX1_quick_54 2 rfl ?_
    refine g_get hX (pc := 55) fcX1 2 rfl 0 (by decide) q176 rfl (v := .ref n) rfl dX1_quick_55 ?_
    refine g_dup hX (pc := 58) dX1_quick_58 rfl ?_
    refine g_getN hX (pc := 59) fcX2 3 rfl 4 (by decide) q164 rfl (v := .int (nNow P)) rfl dX1_quick_59 ?_
    refine g_iconst hX (pc := 62) (v := 1) dX1_quick_62 (by decide) ?_
    refine g_iadd hX (pc := 63) dX1_quick_63 ?_
    refine g_putN hX (pc := 64) fcX2 3 (fs1 := [.ref lm, .ref lb, .ref lr, .int (nLo P), .int ((nNow P) + 1)]) (cs1 := [wq, wk, [(o, ob 0 [.ref n])], [(n, ob 1 [.ref lm, .ref lb, .ref lr, .int (nLo P), .int ((nNow P) + 1)])], wm, wr, pre, post, wb, fz]) rfl 4 (by decide) q164 rfl rfl rfl rfl (Nat.le_of_ble_eq_true rfl) rfl rfl dX1_quick_64 ?_
    refine g_fl (cs1 := [rpre, [(a, ob 10 [.int (nI (rC r)), .ref (aK E (rK r)), .int (nI (rY r)), .int (rA r), .int (rB r), .int (rRes r), .int (rSent r), .int (rAns r), .int (rTimes r)])], rpost, wk, [(o, ob 0 [.ref n])], [(n, ob 1 [.ref lm, .ref lb, .ref lr, .int (nLo P), .int ((nNow P) + 1)])], wm, wr, pre, post, wb, fz]) (by simp only [hwq, List.flatten_cons, List.flatten_nil, List.cons_append, List.append_assoc, List.nil_append, List.append_nil]) ?_
    refine g_aload_n hX (pc := 67) dX1_quick_67 2 rfl ?_
    refine g_get hX (pc := 68) fcX1 4 rfl 0 (by decide) q176 rfl (v := .ref n) rfl dX1_quick_68 ?_
    refine g_aload_n hX (pc := 71) dX1_quick_71 1 rfl ?_
    refine g_aload hX (pc := 72) dX1_quick_72 0 rfl ?_
    refine g_callV hX (pc := 74) kX2_quick (mt_Net_quick E l n lm lb lr (nLo P) ((nNow P) + 1) m M wk fz a r hMk (hky.2)) q1459 fcX2 (sp_mem (i := 5) rfl) [5, 3, 1] rfl rfl rfl (Nat.le_of_ble_eq_true rfl) (Nat.le_of_ble_eq_true rfl) (Nat.le_of_ble_eq_true rfl) (by omega) (by omega) dX1_quick_74 (fun v w1 hp => ?_)
    obtain ⟨rfl, rfl⟩ := hp
    refine g_nrm (cs1 := [[(n, ob 1 [.ref lm, .ref lb, .ref lr, .int (nLo P), .int ((nNow P) + 1)])], wk, [(a, ob 10 [.int (nI (rC (rQuick M r ((nNow P) + 1)))), .ref (aK E (rK (rQuick M r ((nNow P) + 1)))), .int (nI (rY (rQuick M r ((nNow P) + 1)))), .int (rA (rQuick M r ((nNow P) + 1))), .int (rB (rQuick M r ((nNow P) + 1))), .int (rRes (rQuick M r ((nNow P) + 1))), .int (rSent (rQuick M r ((nNow P) + 1))), .int (rAns (rQuick M r ((nNow P) + 1))), .int (rTimes (rQuick M r ((nNow P) + 1)))])], rpre, rpost, [(o, ob 0 [.ref n])], wm, wr, pre, post, wb, fz]) (st1 := [.int (if mR M = 3 then rRes (rQuick M r ((nNow P) + 1)) else (-1))]) rfl rfl ?_
    refine g_pk [3, 2, 2] rfl ?_
    refine g_cs (cs1 := [rpre, [(a, ob 10 [.int (nI (rC (rQuick M r ((nNow P) + 1)))), .ref (aK E (rK (rQuick M r ((nNow P) + 1)))), .int (nI (rY (rQuick M r ((nNow P) + 1)))), .int (rA (rQuick M r ((nNow P) + 1))), .int (rB (rQuick M r ((nNow P) + 1))), .int (rRes (rQuick M r ((nNow P) + 1))), .int (rSent (rQuick M r ((nNow P) + 1))), .int (rAns (rQuick M r ((nNow P) + 1))), .int (rTimes (rQuick M r ((nNow P) + 1)))])], rpost, [(n, ob 1 [.ref lm, .ref lb, .ref lr, .int (nLo P), .int ((nNow P) + 1)])], wk, [(o, ob 0 [.ref n])], wm, wr, pre, post, wb, fz]) rfl ?_
    refine g_fl (cs1 := [(rpre ++ ((a, ob 10 [.int (nI (rC (rQuick M r ((nNow P) + 1)))), .ref (aK E (rK (rQuick M r ((nNow P) + 1)))), .int (nI (rY (rQuick M r ((nNow P) + 1)))), .int (rA (rQuick M r ((nNow P) + 1))), .int (rB (rQuick M r ((nNow P) + 1))), .int (rRes (rQuick M r ((nNow P) + 1))), .int (rSent (rQuick M r ((nNow P) + 1))), .int (rAns (rQuick M r ((nNow P) + 1))), .int (rTimes (rQuick M r ((nNow P) + 1)))]) :: (rpost))), [(n, ob 1 [.ref lm, .ref lb, .ref lr, .int (nLo P), .int ((nNow P) + 1)])], wk, [(o, ob 0 [.ref n])], wm, wr, pre, post, wb, fz]) (by simp only [List.flatten_cons, List.flatten_nil, List.cons_append, List.append_assoc, List.nil_append, List.append_nil]) ?_
    have hRL8 : RL E lr (List.set (nR P) j (rQuick M r (nNow P + 1))) wr (rpre ++ ((a, ob 10 [.int (nI (rC (rQuick M r ((nNow P) + 1)))), .ref (aK E (rK (rQuick M r ((nNow P) + 1)))), .int (nI (rY (rQuick M r ((nNow P) + 1)))), .int (rA (rQuick M r ((nNow P) + 1))), .int (rB (rQuick M r ((nNow P) + 1))), .int (rRes (rQuick M r ((nNow P) + 1))), .int (rSent (rQuick M r ((nNow P) + 1))), .int (rAns (rQuick M r ((nNow P) + 1))), .int (rTimes (rQuick M r ((nNow P) + 1)))]) :: (rpost))) := hRc (rQuick M r (nNow P + 1))
    generalize (rpre ++ ((a, ob 10 [.int (nI (rC (rQuick M r ((nNow P) + 1)))), .ref (aK E (rK (rQuick M r ((nNow P) + 1)))), .int (nI (rY (rQuick M r ((nNow P) + 1)))), .int (rA (rQuick M r ((nNow P) + 1))), .int (rB (rQuick M r ((nNow P) + 1))), .int (rRes (rQuick M r ((nNow P) + 1))), .int (rSent (rQuick M r ((nNow P) + 1))), .int (rAns (rQuick M r ((nNow P) + 1))), .int (rTimes (rQuick M r ((nNow P) + 1)))]) :: (rpost))) = wq9 at hRL8 ⊢
    refine g_pk [6, 2, 5] rfl ?_
    refine g_cs (cs1 := [pre, wk, post, wq9, [(n, ob 1 [.ref lm, .ref lb, .ref lr, .int (nLo P), .int ((nNow P) + 1)])], [(o, ob 0 [.ref n])], wm, wr, wb, fz]) rfl ?_
    refine g_fl (cs1 := [(pre ++ (wk ++ (post))), wq9, [(n, ob 1 [.ref lm, .ref lb, .ref lr, .int (nLo P), .int ((nNow P) + 1)])], [(o, ob 0 [.ref n])], wm, wr, wb, fz]) (by simp only [List.flatten_cons, List.flatten_nil, List.cons_append, List.append_assoc, List.nil_append, List.append_nil]) ?_
    have hML10 : ML E fz lm (nM P) wm (pre ++ (wk ++ (post))) := hML
    refine g_pk [3, 2, 2, 0, 2, 1, 0, 0] rfl ?_
    refine g_cs (cs1 := [[(o, ob 0 [.ref n])], [(n, ob 1 [.ref lm, .ref lb, .ref lr, .int (nLo P), .int ((nNow P) + 1)])], wm, (pre ++ (wk ++ (post))), wb, wr, wq9, fz]) rfl ?_
    refine g_iret hX (pc := 77) hR ?_ (by omega) (by omega) dX1_quick_77
    have eQ : mAt P k = M := mAt_get hM
    have eR : rqG (nR P) j = r := rqG_e hj
    rw [show oQuick P k j = (nM P, nB P, (nR P).set j (rQuick M r (nNow P + 1)), nLo P, nNow P + 1) from by unfold oQuick; rw [eQ, eR]]
    exact ⟨_, _, _, _, Ext.rfl', hML10, hB, hRL8, rfl, rfl⟩

set_option maxHeartbeats 4000000 in
theorem mt_Q_crash (E : EE) (l : Launch) (o : Nat) (n : Nat) (lm : Nat) (lb : Nat) (lr : Nat) (P : PN) (wm : va_W) (wM : va_W) (wb : va_W) (wr : va_W) (wq : va_W) (fz : va_W) (k : Nat) (M : PM) (b : Nat) (hML : ML E fz lm (nM P) wm wM) (hB : BL E fz lb (nB P) wb) (hRq : RL E lr (nR P) wr wq) (hP : (nOK b P)) (hb : (b ≤ 32)) (hM : ((nM P)[k]? = some M)) (hu : (¬ mR M = 0)) : Mt E l yX1_crash cX1_crash 4 (some .int) 9 13 120 213 [.ref o, .int (nI k)] [[(o, ob 0 [.ref n])], [(n, ob 1 [.ref lm, .ref lb, .ref lr, .int (nLo P), .int (nNow P)])], wm, wM, wb, wr, wq, fz] (fun (v_ : Option Value) (cs_ : List va_W) => ∃ (fz1 : va_W) (w1 : va_W) (w2 : va_W) (w3 : va_W), Ext E fz fz1 ∧ ML E fz1 lm (nM (oCrash P k)) wm w1 ∧ BL E fz1 lb (nB (oCrash P k)) w2 ∧ RL E lr (nR (oCrash P k)) wr w3 ∧ v_ = some (.int (nI (xLost M))) ∧ cs_ = [[(o, ob 0 [.ref n])], [(n, ob 1 [.ref lm, .ref lb, .ref lr, .int (nLo (oCrash P k)), .int (nNow (oCrash P k))])], wm, w1, w2, wr, w3, fz1]) := by
  obtain ⟨mas, m, wk, pre, post, hAm, hml, hmk, hMk, rfl, hMc⟩ := ml_focus hML hM
  have hl5 : mas.length ≤ 5 := by rw [hml]; exact hP.1
  have hkl : k < (nM P).length := (List.getElem?_eq_some_iff.mp hM).1
  have hn30 : (nB P).length ≤ 30 := hP.2.1
  have hrq2 := hP.2.2.1
  have h40 := hrq2.1
  obtain ⟨m1, m2, m3⟩ := hP.2.2.2.1 _ _ hM
  rw [← hml] at m1
  obtain ⟨⟨o1, o2⟩, ⟨o3, o4⟩, ⟨o5, o6, o7, o8⟩, ⟨o9, o10⟩, o11, o12⟩ := m1
  have m1 : mOK mas.length (nR P).length b M := ⟨⟨o1, o2⟩, ⟨o3, o4⟩, ⟨o5, o6, o7, o8⟩, ⟨o9, o10⟩, o11, o12⟩
  have hll : lLast (mL M) = lB (mL M) + (lE (mL M)).length := rfl
  have hlv : lLast (mV M) = lB (mV M) + (lE (mV M)).length := rfl
  have hf33 := fl_le33 (n := (lE (mV M)).length) (by omega)
  refine Mt.of (by decide) (Nat.le_of_ble_eq_true rfl) (fun X hX hR hin => ?_)
  refine g_lv1 (lv1 := [(0, .ref o), (1, .int (nI k))]) rfl ?_
  refine g_fl (cs1 := [[(o, ob 0 [.ref n])], [(n, ob 1 [.ref lm, .ref lb, .ref lr, .int (nLo P), .int (nNow P)])], wm, pre, wk, post, wb, wr, wq, fz]) (by simp only [List.flatten_cons, List.flatten_nil, List.cons_append, List.append_assoc, List.nil_append, List.append_nil]) ?_
  refine g_aload_n hX (pc := 0) dX1_crash_0 0 rfl ?_
  refine g_iload_n hX (pc := 1) dX1_crash_1 1 rfl ?_
  refine g_callV hX (pc := 2) kX1_upAt (mt_Q_upAt E l o n lm lb lr (nLo P) (nNow P) mas wm k m M wk fz hAm hMk (hmk) (hl5) (by omega)) q1380 fcX1 (sp_mem (i := 0) rfl) [0, 0, 0, 1] rfl rfl rfl (Nat.le_of_ble_eq_true rfl) (Nat.le_of_ble_eq_true rfl) (Nat.le_of_ble_eq_true rfl) (by omega) (by omega) dX1_crash_2 (fun v w1 hp => ?_)
  obtain ⟨rfl, rfl⟩ := hp
  refine g_nrm (cs1 := [[(o, ob 0 [.ref n])], [(n, ob 1 [.ref lm, .ref lb, .ref lr, .int (nLo P), .int (nNow P)])], wm, wk, pre, post, wb, wr, wq, fz]) (st1 := [.ref m]) rfl rfl ?_
  refine g_astore_n hX (pc := 5) (lv1 := [(2, .ref m), (0, .ref o), (1, .int (nI k))]) dX1_crash_5 (by decide) rfl ?_
  refine g_aload_n hX (pc := 6) dX1_crash_6 1 rfl ?_
  refine g_get hX (pc := 7) fcX1 0 rfl 0 (by decide) q176 rfl (v := .ref n) rfl dX1_crash_7 ?_
  refine g_dup hX (pc := 10) dX1_crash_10 rfl ?_
  refine g_getN hX (pc := 11) fcX2 1 rfl 4 (by decide) q164 rfl (v := .int (nNow P)) rfl dX1_crash_11 ?_
  refine g_iconst hX (pc := 14) (v := 1) dX1_crash_14 (by decide) ?_
  refine g_iadd hX (pc := 15) dX1_crash_15 ?_
  refine g_putN hX (pc := 16) fcX2 1 (fs1 := [.ref lm, .ref lb, .ref lr, .int (nLo P), .int ((nNow P) + 1)]) (cs1 := [[(o, ob 0 [.ref n])], [(n, ob 1 [.ref lm, .ref lb, .ref lr, .int (nLo P), .int ((nNow P) + 1)])], wm, wk, pre, post, wb, wr, wq, fz]) rfl 4 (by decide) q164 rfl rfl rfl rfl (Nat.le_of_ble_eq_true rfl) rfl rfl dX1_crash_16 ?_
  obtain ⟨rn1, rk2, rl3, rs4, rst5, fn6, fk7, wl8, ws9, wst10, hn11, hL12, hV13, hS14, rfl⟩ := hMk
  obtain ⟨la15, sp16, ges17, wl8, hE18, hges19, hsp20, rfl⟩ := hL12
  refine g_fl (cs1 := [[(o, ob 0 [.ref n])], [(n, ob 1 [.ref lm, .ref lb, .ref lr, .int (nLo P), .int ((nNow P) + 1)])], wm, [(m, ob 8 [.int (nI (mN M)), .ref rn1, .ref rk2, .ref rl3, .ref rs4, .ref rst5, .int (mR M), .int (mVt M), .int (nI (mSu M)), .int (nI (mDn M)), .int (bI (mLz M))])], [(rn1, iA (aC E 0) 5 fn6)], [(rk2, iA (aC E 0) 5 fk7)], [(rl3, ob 9 [.ref la15, .int (lT (mL M)), .int (lV (mL M)), .int (nI (lB (mL M))), .int (lBT (mL M)), .ref sp16])], wl8, ws9, wst10, pre, post, wb, wr, wq, fz]) (by simp only [List.flatten_cons, List.flatten_nil, List.cons_append, List.append_assoc, List.nil_append, List.append_nil]) ?_
  have hl_ges17 : List.length ges17 = List.length (lE (mL M)) := by rw [← hges19, List.length_map]
  obtain ⟨la21, sp22, ges23, wl24, hE25, hg26, hsp27, rfl⟩ := hV13
  refine g_fl (cs1 := [[(o, ob 0 [.ref n])], [(n, ob 1 [.ref lm, .ref lb, .ref lr, .int (nLo P), .int ((nNow P) + 1)])], wm, [(m, ob 8 [.int (nI (mN M)), .ref rn1, .ref rk2, .ref rl3, .ref rs4, .ref rst5, .int (mR M), .int (mVt M), .int (nI (mSu M)), .int (nI (mDn M)), .int (bI (mLz M))])], [(rn1, iA (aC E 0) 5 fn6)], [(rk2, iA (aC E 0) 5 fk7)], [(rl3, ob 9 [.ref la15, .int (lT (mL M)), .int (lV (mL M)), .int (nI (lB (mL M))), .int (lBT (mL M)), .ref sp16])], wl8, [(rs4, ob 9 [.ref la21, .int (lT (mV M)), .int (lV (mV M)), .int (nI (lB (mV M))), .int (lBT (mV M)), .ref sp22])], wl24, wst10, pre, post, wb, wr, wq, fz]) (by simp only [List.flatten_cons, List.flatten_nil, List.cons_append, List.append_assoc, List.nil_append, List.append_nil]) ?_
  have hl2_ges23 : List.length ges23 = List.length (lE (mV M)) := by rw [← hg26, List.length_map]
  have hf1 := fl_le33 (n := List.length ges17) (by omega)
  have hf2 := fl_le33 (n := List.length ges23) (by omega)
  refine g_aload_n hX (pc := 19) dX1_crash_19 0 rfl ?_
  refine g_callV hX (pc := 20) kX9_lost (mt_Machine_lost E l m (nI (mN M)) rn1 rk2 rl3 rs4 rst5 (mR M) (mVt M) (nI (mSu M)) (nI (mDn M)) (bI (mLz M)) la15 (lT (mL M)) (lV (mL M)) (lB (mL M)) (lBT (mL M)) sp16 fz ges17 wl8 la21 (lT (mV M)) (lV (mV M)) (lB (mV M)) (lBT (mV M)) sp22 ges23 wl24 hE18 hE25 (by omega) (by omega)) q1470 fcX9 (sp_mem (i := 3) rfl) [3, 5, 5, 5, 5, 11] rfl rfl rfl (Nat.le_of_ble_eq_true rfl) (Nat.le_of_ble_eq_true rfl) (Nat.le_of_ble_eq_true rfl) (by omega) (by omega) dX1_crash_20 (fun v w1 hp => ?_)
  obtain ⟨rfl, rfl⟩ := hp
  refine g_nrm (cs1 := [[(m, ob 8 [.int (nI (mN M)), .ref rn1, .ref rk2, .ref rl3, .ref rs4, .ref rst5, .int (mR M), .int (mVt M), .int (nI (mSu M)), .int (nI (mDn M)), .int (bI (mLz M))])], [(rl3, ob 9 [.ref la15, .int (lT (mL M)), .int (lV (mL M)), .int (nI (lB (mL M))), .int (lBT (mL M)), .ref sp16])], wl8, [(rs4, ob 9 [.ref la21, .int (lT (mV M)), .int (lV (mV M)), .int (nI (lB (mV M))), .int (lBT (mV M)), .ref sp22])], wl24, fz, [(o, ob 0 [.ref n])], [(n, ob 1 [.ref lm, .ref lb, .ref lr, .int (nLo P), .int ((nNow P) + 1)])], wm, [(rn1, iA (aC E 0) 5 fn6)], [(rk2, iA (aC E 0) 5 fk7)], wst10, pre, post, wb, wr, wq]) (st1 := [.int (nI (lostUp (lB (mL M)) (List.map Prod.snd ges17) (lB (mV M)) (List.map Prod.snd ges23) (List.length ges17)))]) rfl rfl ?_
  refine g_eqi (nI (xLost M)) (by unfold xLost; rw [hges19, hg26, hl_ges17]) ?_
  refine g_istore_n hX (pc := 23) (lv1 := [(3, .int (nI (xLost M))), (2, .ref m), (0, .ref o), (1, .int (nI k))]) dX1_crash_23 (by decide) rfl ?_
  refine g_aload_n hX (pc := 24) dX1_crash_24 1 rfl ?_
  refine g_callV hX (pc := 25) kX9_crash (mt_Machine_crash E l m (nI (mN M)) rn1 rk2 rl3 rs4 rst5 (mR M) (mVt M) (nI (mSu M)) (nI (mDn M)) (bI (mLz M)) la21 (lT (mV M)) (lV (mV M)) (lB (mV M)) (lBT (mV M)) sp22 fz ges23 wl24 (lS (mV M)) hE25 (by omega) (hsp27)) q1478 fcX9 (sp_mem (i := 0) rfl) [0, 2, 2, 2] rfl rfl rfl (Nat.le_of_ble_eq_true rfl) (Nat.le_of_ble_eq_true rfl) (Nat.le_of_ble_eq_true rfl) (by omega) (by omega) dX1_crash_25 (fun v w1 hp => ?_)
  obtain ⟨q28, lb29, w130, r31, w232, h33, h34, rfl, rfl⟩ := hp
  refine g_nrm (cs1 := [[(m, ob 8 [.int (nI (mN M)), .ref rn1, .ref rk2, .ref q28, .ref rs4, .ref r31, .int 0, .int 0, .int (nI (lB (mV M))), .int (nI (lB (mV M))), .int (bI (mLz M))])], [(q28, ob 9 [.ref lb29, .int (lT (mV M)), .int (lV (mV M)), .int (nI (lB (mV M))), .int (lBT (mV M)), .ref sp22])], w130, w232, [(rs4, ob 9 [.ref la21, .int (lT (mV M)), .int (lV (mV M)), .int (nI (lB (mV M))), .int (lBT (mV M)), .ref sp22])], wl24, fz, [(rl3, ob 9 [.ref la15, .int (lT (mL M)), .int (lV (mL M)), .int (nI (lB (mL M))), .int (lBT (mL M)), .ref sp16])], wl8, [(o, ob 0 [.ref n])], [(n, ob 1 [.ref lm, .ref lb, .ref lr, .int (nLo P), .int ((nNow P) + 1)])], wm, [(rn1, iA (aC E 0) 5 fn6)], [(rk2, iA (aC E 0) 5 fk7)], wst10, pre, post, wb, wr, wq]) (st1 := []) rfl rfl ?_
  refine g_iload_n hX (pc := 28) dX1_crash_28 0 rfl ?_
  refine g_pk [4, 4] rfl ?_
  refine g_cs (cs1 := [[(rs4, ob 9 [.ref la21, .int (lT (mV M)), .int (lV (mV M)), .int (nI (lB (mV M))), .int (lBT (mV M)), .ref sp22])], wl24, [(m, ob 8 [.int (nI (mN M)), .ref rn1, .ref rk2, .ref q28, .ref rs4, .ref r31, .int 0, .int 0, .int (nI (lB (mV M))), .int (nI (lB (mV M))), .int (bI (mLz M))])], [(q28, ob 9 [.ref lb29, .int (lT (mV M)), .int (lV (mV M)), .int (nI (lB (mV M))), .int (lBT (mV M)), .ref sp22])], w130, w232, fz, [(rl3, ob 9 [.ref la15, .int (lT (mL M)), .int (lV (mL M)), .int (nI (lB (mL M))), .int (lBT (mL M)), .ref sp16])], wl8, [(o, ob 0 [.ref n])], [(n, ob 1 [.ref lm, .ref lb, .ref lr, .int (nLo P), .int ((nNow P) + 1)])], wm, [(rn1, iA (aC E 0) 5 fn6)], [(rk2, iA (aC E 0) 5 fk7)], wst10, pre, post, wb, wr, wq]) rfl ?_
  refine g_fl (cs1 := [((rs4, ob 9 [.ref la21, .int (lT (mV M)), .int (lV (mV M)), .int (nI (lB (mV M))), .int (lBT (mV M)), .ref sp22]) :: (wl24)), [(m, ob 8 [.int (nI (mN M)), .ref rn1, .ref rk2, .ref q28, .ref rs4, .ref r31, .int 0, .int 0, .int (nI (lB (mV M))), .int (nI (lB (mV M))), .int (bI (mLz M))])], [(q28, ob 9 [.ref lb29, .int (lT (mV M)), .int (lV (mV M)), .int (nI (lB (mV M))), .int (lBT (mV M)), .ref sp22])], w130, w232, fz, [(rl3, ob 9 [.ref la15, .int (lT (mL M)), .int (lV (mL M)), .int (nI (lB (mL M))), .int (lBT (mL M)), .ref sp16])], wl8, [(o, ob 0 [.ref n])], [(n, ob 1 [.ref lm, .ref lb, .ref lr, .int (nLo P), .int ((nNow P) + 1)])], wm, [(rn1, iA (aC E 0) 5 fn6)], [(rk2, iA (aC E 0) 5 fk7)], wst10, pre, post, wb, wr, wq]) (by simp only [List.flatten_cons, List.flatten_nil, List.cons_append, List.append_assoc, List.nil_append, List.append_nil]) ?_
  have hL35 : IsLog E fz rs4 (mV M) ((rs4, ob 9 [.ref la21, .int (lT (mV M)), .int (lV (mV M)), .int (nI (lB (mV M))), .int (lBT (mV M)), .ref sp22]) :: (wl24)) := ⟨_, _, _, _, hE25, hg26, hsp27, rfl⟩
  generalize ((rs4, ob 9 [.ref la21, .int (lT (mV M)), .int (lV (mV M)), .int (nI (lB (mV M))), .int (lBT (mV M)), .ref sp22]) :: (wl24)) = ws36 at hL35 ⊢
  refine g_pk [1, 10, 10, 1, 1, 0, 0] rfl ?_
  refine g_cs (cs1 := [[(m, ob 8 [.int (nI (mN M)), .ref rn1, .ref rk2, .ref q28, .ref rs4, .ref r31, .int 0, .int 0, .int (nI (lB (mV M))), .int (nI (lB (mV M))), .int (bI (mLz M))])], [(rn1, iA (aC E 0) 5 fn6)], [(rk2, iA (aC E 0) 5 fk7)], [(q28, ob 9 [.ref lb29, .int (lT (mV M)), .int (lV (mV M)), .int (nI (lB (mV M))), .int (lBT (mV M)), .ref sp22])], w130, ws36, w232, fz, [(rl3, ob 9 [.ref la15, .int (lT (mL M)), .int (lV (mL M)), .int (nI (lB (mL M))), .int (lBT (mL M)), .ref sp16])], wl8, [(o, ob 0 [.ref n])], [(n, ob 1 [.ref lm, .ref lb, .ref lr, .int (nLo P), .int ((nNow P) + 1)])], wm, wst10, pre, post, wb, wr, wq]) rfl ?_
  refine g_fl (cs1 := [((m, ob 8 [.int (nI (mN M)), .ref rn1, .ref rk2, .ref q28, .ref rs4, .ref r31, .int 0, .int 0, .int (nI (lB (mV M))), .int (nI (lB (mV M))), .int (bI (mLz M))]) :: (rn1, iA (aC E 0) 5 fn6) :: (rk2, iA (aC E 0) 5 fk7) :: (((q28, ob 9 [.ref lb29, .int (lT (mV M)), .int (lV (mV M)), .int (nI (lB (mV M))), .int (lBT (mV M)), .ref sp22]) :: w130) ++ (ws36 ++ w232))), fz, [(rl3, ob 9 [.ref la15, .int (lT (mL M)), .int (lV (mL M)), .int (nI (lB (mL M))), .int (lBT (mL M)), .ref sp16])], wl8, [(o, ob 0 [.ref n])], [(n, ob 1 [.ref lm, .ref lb, .ref lr, .int (nLo P), .int ((nNow P) + 1)])], wm, wst10, pre, post, wb, wr, wq]) (by simp only [List.flatten_cons, List.flatten_nil, List.cons_append, List.append_assoc, List.nil_append, List.append_nil]) ?_
  have hM37 : IsMach E fz m (mCrash M) ((m, ob 8 [.int (nI (mN M)), .ref rn1, .ref rk2, .ref q28, .ref rs4, .ref r31, .int 0, .int 0, .int (nI (lB (mV M))), .int (nI (lB (mV M))), .int (bI (mLz M))]) :: (rn1, iA (aC E 0) 5 fn6) :: (rk2, iA (aC E 0) 5 fk7) :: (((q28, ob 9 [.ref lb29, .int (lT (mV M)), .int (lV (mV M)), .int (nI (lB (mV M))), .int (lBT (mV M)), .ref sp22]) :: w130) ++ (ws36 ++ w232))) := ⟨_, _, _, _, _, _, _, _, _, _, hn11, ⟨_, _, _, _, h33, hg26, hsp27, rfl⟩, hL35, h34, rfl⟩
  generalize ((m, ob 8 [.int (nI (mN M)), .ref rn1, .ref rk2, .ref q28, .ref rs4, .ref r31, .int 0, .int 0, .int (nI (lB (mV M))), .int (nI (lB (mV M))), .int (bI (mLz M))]) :: (rn1, iA (aC E 0) 5 fn6) :: (rk2, iA (aC E 0) 5 fk7) :: (((q28, ob 9 [.ref lb29, .int (lT (mV M)), .int (lV (mV M)), .int (nI (lB (mV M))), .int (lBT (mV M)), .ref sp22]) :: w130) ++ (ws36 ++ w232))) = wk38 at hM37 ⊢
  refine g_drop (cs1 := [wk38, fz, wl8, [(o, ob 0 [.ref n])], [(n, ob 1 [.ref lm, .ref lb, .ref lr, .int (nLo P), .int ((nNow P) + 1)])], wm, wst10, pre, post, wb, wr, wq]) [2] rfl ?_
  refine g_drop (cs1 := [wk38, fz, [(o, ob 0 [.ref n])], [(n, ob 1 [.ref lm, .ref lb, .ref lr, .int (nLo P), .int ((nNow P) + 1)])], wm, wst10, pre, post, wb, wr, wq]) [2] rfl ?_
  refine g_drop (cs1 := [wk38, fz, [(o, ob 0 [.ref n])], [(n, ob 1 [.ref lm, .ref lb, .ref lr, .int (nLo P), .int ((nNow P) + 1)])], wm, pre, post, wb, wr, wq]) [5] rfl ?_
  refine g_pk [5, 0, 4] rfl ?_
  refine g_cs (cs1 := [pre, wk38, post, fz, [(o, ob 0 [.ref n])], [(n, ob 1 [.ref lm, .ref lb, .ref lr, .int (nLo P), .int ((nNow P) + 1)])], wm, wb, wr, wq]) rfl ?_
  refine g_fl (cs1 := [(pre ++ (wk38 ++ (post))), fz, [(o, ob 0 [.ref n])], [(n, ob 1 [.ref lm, .ref lb, .ref lr, .int (nLo P), .int ((nNow P) + 1)])], wm, wb, wr, wq]) (by simp only [List.flatten_cons, List.flatten_nil, List.cons_append, List.append_assoc, List.nil_append, List.append_nil]) ?_
  have hML39 : ML E fz lm (List.set (nM P) k (mCrash M)) wm (pre ++ (wk38 ++ (post))) := hMc _ _ _ Ext.rfl' hM37
  generalize (pre ++ (wk38 ++ (post))) = wM40 at hML39 ⊢
  refine g_pk [2, 2, 2, 0, 1, 1, 1, 0] rfl ?_
  refine g_cs (cs1 := [[(o, ob 0 [.ref n])], [(n, ob 1 [.ref lm, .ref lb, .ref lr, .int (nLo P), .int ((nNow P) + 1)])], wm, wM40, wb, wr, wq, fz]) rfl ?_
  refine g_iret hX (pc := 29) hR ?_ (by omega) (by omega) dX1_crash_29
  rw [show oCrash P k = nSet P k (mCrash M) from by unfold oCrash; rw [mAt_get hM]]
  exact ⟨_, _, _, _, Ext.rfl', hML39, hB, hRq, rfl, rfl⟩

set_option maxHeartbeats 4000000 in
theorem mt_Q_start (E : EE) (l : Launch) (o : Nat) (n : Nat) (lm : Nat) (lb : Nat) (lr : Nat) (P : PN) (wm : va_W) (wM : va_W) (wb : va_W) (wr : va_W) (wq : va_W) (fz : va_W) (k : Nat) (M : PM) (b : Nat) (hML : ML E fz lm (nM P) wm wM) (hB : BL E fz lb (nB P) wb) (hRq : RL E lr (nR P) wr wq) (hP : (nOK b P)) (hb : (b ≤ 32)) (hM : ((nM P)[k]? = some M)) (hd : (mR M = 0)) : Mt E l yX1_start cX1_start 3 (some .int) 6 0 0 107 [.ref o, .int (nI k)] [[(o, ob 0 [.ref n])], [(n, ob 1 [.ref lm, .ref lb, .ref lr, .int (nLo P), .int (nNow P)])], wm, wM, wb, wr, wq, fz] (fun (v_ : Option Value) (cs_ : List va_W) => ∃ (fz1 : va_W) (w1 : va_W) (w2 : va_W) (w3 : va_W), Ext E fz fz1 ∧ ML E fz1 lm (nM (oStart P k)) wm w1 ∧ BL E fz1 lb (nB (oStart P k)) w2 ∧ RL E lr (nR (oStart P k)) wr w3 ∧ v_ = some (.int (lT (mL M))) ∧ cs_ = [[(o, ob 0 [.ref n])], [(n, ob 1 [.ref lm, .ref lb, .ref lr, .int (nLo (oStart P k)), .int (nNow (oStart P k))])], wm, w1, w2, wr, w3, fz1]) := by
  obtain ⟨mas, m, wk, pre, post, hAm, hml, hmk, hMk, rfl, hMc⟩ := ml_focus hML hM
  have hl5 : mas.length ≤ 5 := by rw [hml]; exact hP.1
  have hkl : k < (nM P).length := (List.getElem?_eq_some_iff.mp hM).1
  have hn30 : (nB P).length ≤ 30 := hP.2.1
  have hrq2 := hP.2.2.1
  have h40 := hrq2.1
  obtain ⟨m1, m2, m3⟩ := hP.2.2.2.1 _ _ hM
  rw [← hml] at m1
  obtain ⟨⟨o1, o2⟩, ⟨o3, o4⟩, ⟨o5, o6, o7, o8⟩, ⟨o9, o10⟩, o11, o12⟩ := m1
  have m1 : mOK mas.length (nR P).length b M := ⟨⟨o1, o2⟩, ⟨o3, o4⟩, ⟨o5, o6, o7, o8⟩, ⟨o9, o10⟩, o11, o12⟩
  have hll : lLast (mL M) = lB (mL M) + (lE (mL M)).length := rfl
  have hlv : lLast (mV M) = lB (mV M) + (lE (mV M)).length := rfl
  refine Mt.of (by decide) (Nat.le_of_ble_eq_true rfl) (fun X hX hR hin => ?_)
  refine g_lv1 (lv1 := [(0, .ref o), (1, .int (nI k))]) rfl ?_
  refine g_fl (cs1 := [[(o, ob 0 [.ref n])], [(n, ob 1 [.ref lm, .ref lb, .ref lr, .int (nLo P), .int (nNow P)])], wm, pre, wk, post, wb, wr, wq, fz]) (by simp only [List.flatten_cons, List.flatten_nil, List.cons_append, List.append_assoc, List.nil_append, List.append_nil]) ?_
  refine g_aload_n hX (pc := 0) dX1_start_0 0 rfl ?_
  refine g_iload_n hX (pc := 1) dX1_start_1 1 rfl ?_
  refine g_callV hX (pc := 2) kX1_machineAt (mt_Q_machineAt E l o n lm lb lr (nLo P) (nNow P) mas wm k m M wk fz hAm hMk (hmk) (hl5)) q1360 fcX1 (sp_mem (i := 0) rfl) [0, 0, 0, 1] rfl rfl rfl (Nat.le_of_ble_eq_true rfl) (Nat.le_of_ble_eq_true rfl) (Nat.le_of_ble_eq_true rfl) (by omega) (by omega) dX1_start_2 (fun v w1 hp => ?_)
  obtain ⟨rfl, rfl⟩ := hp
  refine g_nrm (cs1 := [[(o, ob 0 [.ref n])], [(n, ob 1 [.ref lm, .ref lb, .ref lr, .int (nLo P), .int (nNow P)])], wm, wk, pre, post, wb, wr, wq, fz]) (st1 := [.ref m]) rfl rfl ?_
  refine g_astore_n hX (pc := 5) (lv1 := [(2, .ref m), (0, .ref o), (1, .int (nI k))]) dX1_start_5 (by decide) rfl ?_
  refine g_aload_n hX (pc := 6) dX1_start_6 0 rfl ?_
  obtain ⟨fs1, hm2⟩ := IsMach.head hMk
  refine g_callV hX (pc := 7) kX9_isUp (mt_Machine_isUpM E l m M wk fz hMk) q1035 fcX9 (sp_in 3 rfl hm2) [3] rfl rfl rfl (Nat.le_of_ble_eq_true rfl) (Nat.le_of_ble_eq_true rfl) (Nat.le_of_ble_eq_true rfl) (by omega) (by omega) dX1_start_7 (fun v w1 hp => ?_)
  obtain ⟨rfl, rfl⟩ := hp
  refine g_nrm (cs1 := [wk, [(o, ob 0 [.ref n])], [(n, ob 1 [.ref lm, .ref lb, .ref lr, .int (nLo P), .int (nNow P)])], wm, pre, post, wb, wr, wq, fz]) (st1 := [.int (if mR M = 0 then 0 else 1)]) rfl rfl ?_
  refine g_val (v := if mR M = 0 then 1 else 0) (pcJ := 18) (st1 := []) (fun hj3 => ?_) ?_
  · refine g_if_ne hX (pc := 10) (tgt := 17) dX1_start_10 rfl (fun c4_ => ?_) (fun c4_ => ?_)
    · have c4 := z01n.mp c4_
      refine g_iconst hX (pc := 17) (v := 0) dX1_start_17 (by decide) ?_
      exact hj3 _ (by rw [if_neg c4])
    · have c4 := z01.mp c4_
      refine g_iconst hX (pc := 13) (v := 1) dX1_start_13 (by decide) ?_
      refine g_goto hX (pc := 14) (tgt := 18) dX1_start_14 rfl ?_
      exact hj3 _ (by rw [if_pos c4])
  refine g_eqi 1 (if_pos hd) ?_
  refine g_callS hX (pc := 18) kX1_checkState (mt_checkState E l ) q1268 [] rfl rfl rfl (Nat.le_of_ble_eq_true rfl) (Nat.le_of_ble_eq_true rfl) (Nat.le_of_ble_eq_true rfl) (by omega) (by omega) dX1_start_18 (fun v w1 hp => ?_)
  obtain ⟨rfl, rfl⟩ := hp
  refine g_nrm (cs1 := [wk, [(o, ob 0 [.ref n])], [(n, ob 1 [.ref lm, .ref lb, .ref lr, .int (nLo P), .int (nNow P)])], wm, pre, post, wb, wr, wq, fz]) (st1 := []) rfl rfl ?_
  refine g_aload_n hX (pc := 21) dX1_start_21 1 rfl ?_
  refine g_get hX (pc := 22) fcX1 1 rfl 0 (by decide) q176 rfl (v := .ref n) rfl dX1_start_22 ?_
  refine g_dup hX (pc := 25) dX1_start_25 rfl ?_
  refine g_getN hX (pc := 26) fcX2 2 rfl 4 (by decide) q164 rfl (v := .int (nNow P)) rfl dX1_start_26 ?_
  refine g_iconst hX (pc := 29) (v := 1) dX1_start_29 (by decide) ?_
  refine g_iadd hX (pc := 30) dX1_start_30 ?_
  refine g_putN hX (pc := 31) fcX2 2 (fs1 := [.ref lm, .ref lb, .ref lr, .int (nLo P), .int ((nNow P) + 1)]) (cs1 := [wk, [(o, ob 0 [.ref n])], [(n, ob 1 [.ref lm, .ref lb, .ref lr, .int (nLo P), .int ((nNow P) + 1)])], wm, pre, post, wb, wr, wq, fz]) rfl 4 (by decide) q164 rfl rfl rfl rfl (Nat.le_of_ble_eq_true rfl) rfl rfl dX1_start_31 ?_
  obtain ⟨rn5, rk6, rl7, rs8, rst9, fn10, fk11, wl12, ws13, wst14, hn15, hL16, hV17, hS18, rfl⟩ := hMk
  obtain ⟨la19, sp20, ges21, wl12, hE22, hges23, hsp24, rfl⟩ := hL16
  refine g_fl (cs1 := [[(m, ob 8 [.int (nI (mN M)), .ref rn5, .ref rk6, .ref rl7, .ref rs8, .ref rst9, .int (mR M), .int (mVt M), .int (nI (mSu M)), .int (nI (mDn M)), .int (bI (mLz M))])], [(rn5, iA (aC E 0) 5 fn10)], [(rk6, iA (aC E 0) 5 fk11)], [(rl7, ob 9 [.ref la19, .int (lT (mL M)), .int (lV (mL M)), .int (nI (lB (mL M))), .int (lBT (mL M)), .ref sp20])], wl12, ws13, wst14, [(o, ob 0 [.ref n])], [(n, ob 1 [.ref lm, .ref lb, .ref lr, .int (nLo P), .int ((nNow P) + 1)])], wm, pre, post, wb, wr, wq, fz]) (by simp only [List.flatten_cons, List.flatten_nil, List.cons_append, List.append_assoc, List.nil_append, List.append_nil]) ?_
  have hl_ges21 : List.length ges21 = List.length (lE (mL M)) := by rw [← hges23, List.length_map]
  refine g_aload_n hX (pc := 34) dX1_start_34 0 rfl ?_
  refine g_callV hX (pc := 35) kX9_follow (mt_Machine_follow E l m (nI (mN M)) rn5 rk6 rl7 rs8 rst9 (mR M) (mVt M) (nI (mSu M)) (nI (mDn M)) (bI (mLz M))) q1490 fcX9 (sp_mem (i := 0) rfl) [0] rfl rfl rfl (Nat.le_of_ble_eq_true rfl) (Nat.le_of_ble_eq_true rfl) (Nat.le_of_ble_eq_true rfl) (by omega) (by omega) dX1_start_35 (fun v w1 hp => ?_)
  obtain ⟨rfl, rfl⟩ := hp
  refine g_nrm (cs1 := [[(m, ob 8 [.int (nI (mN M)), .ref rn5, .ref rk6, .ref rl7, .ref rs8, .ref rst9, .int 1, .int 0, .int (nI (mSu M)), .int (nI (mDn M)), .int (bI (mLz M))])], [(rn5, iA (aC E 0) 5 fn10)], [(rk6, iA (aC E 0) 5 fk11)], [(rl7, ob 9 [.ref la19, .int (lT (mL M)), .int (lV (mL M)), .int (nI (lB (mL M))), .int (lBT (mL M)), .ref sp20])], wl12, ws13, wst14, [(o, ob 0 [.ref n])], [(n, ob 1 [.ref lm, .ref lb, .ref lr, .int (nLo P), .int ((nNow P) + 1)])], wm, pre, post, wb, wr, wq, fz]) (st1 := []) rfl rfl ?_
  refine g_aload_n hX (pc := 38) dX1_start_38 0 rfl ?_
  refine g_getN hX (pc := 39) fcX9 0 rfl 3 (by decide) q934 rfl (v := .ref rl7) rfl dX1_start_39 ?_
  refine g_getN hX (pc := 42) fcX10 3 rfl 1 (by decide) q846 rfl (v := .int (lT (mL M))) rfl dX1_start_42 ?_
  refine g_pk [0, 0, 0, 0, 0, 0, 0] rfl ?_
  refine g_cs (cs1 := [[(m, ob 8 [.int (nI (mN M)), .ref rn5, .ref rk6, .ref rl7, .ref rs8, .ref rst9, .int 1, .int 0, .int (nI (mSu M)), .int (nI (mDn M)), .int (bI (mLz M))])], [(rn5, iA (aC E 0) 5 fn10)], [(rk6, iA (aC E 0) 5 fk11)], [(rl7, ob 9 [.ref la19, .int (lT (mL M)), .int (lV (mL M)), .int (nI (lB (mL M))), .int (lBT (mL M)), .ref sp20])], wl12, ws13, wst14, [(o, ob 0 [.ref n])], [(n, ob 1 [.ref lm, .ref lb, .ref lr, .int (nLo P), .int ((nNow P) + 1)])], wm, pre, post, wb, wr, wq, fz]) rfl ?_
  refine g_fl (cs1 := [((m, ob 8 [.int (nI (mN M)), .ref rn5, .ref rk6, .ref rl7, .ref rs8, .ref rst9, .int 1, .int 0, .int (nI (mSu M)), .int (nI (mDn M)), .int (bI (mLz M))]) :: (rn5, iA (aC E 0) 5 fn10) :: (rk6, iA (aC E 0) 5 fk11) :: (((rl7, ob 9 [.ref la19, .int (lT (mL M)), .int (lV (mL M)), .int (nI (lB (mL M))), .int (lBT (mL M)), .ref sp20]) :: wl12) ++ (ws13 ++ wst14))), [(o, ob 0 [.ref n])], [(n, ob 1 [.ref lm, .ref lb, .ref lr, .int (nLo P), .int ((nNow P) + 1)])], wm, pre, post, wb, wr, wq, fz]) (by simp only [List.flatten_cons, List.flatten_nil, List.cons_append, List.append_assoc, List.nil_append, List.append_nil]) ?_
  have hM25 : IsMach E fz m (mFollow M) ((m, ob 8 [.int (nI (mN M)), .ref rn5, .ref rk6, .ref rl7, .ref rs8, .ref rst9, .int 1, .int 0, .int (nI (mSu M)), .int (nI (mDn M)), .int (bI (mLz M))]) :: (rn5, iA (aC E 0) 5 fn10) :: (rk6, iA (aC E 0) 5 fk11) :: (((rl7, ob 9 [.ref la19, .int (lT (mL M)), .int (lV (mL M)), .int (nI (lB (mL M))), .int (lBT (mL M)), .ref sp20]) :: wl12) ++ (ws13 ++ wst14))) := ⟨_, _, _, _, _, _, _, _, _, _, hn15, ⟨_, _, _, _, hE22, hges23, hsp24, rfl⟩, hV17, hS18, rfl⟩
  generalize ((m, ob 8 [.int (nI (mN M)), .ref rn5, .ref rk6, .ref rl7, .ref rs8, .ref rst9, .int 1, .int 0, .int (nI (mSu M)), .int (nI (mDn M)), .int (bI (mLz M))]) :: (rn5, iA (aC E 0) 5 fn10) :: (rk6, iA (aC E 0) 5 fk11) :: (((rl7, ob 9 [.ref la19, .int (lT (mL M)), .int (lV (mL M)), .int (nI (lB (mL M))), .int (lBT (mL M)), .ref sp20]) :: wl12) ++ (ws13 ++ wst14))) = wk26 at hM25 ⊢
  refine g_pk [4, 0, 3] rfl ?_
  refine g_cs (cs1 := [pre, wk26, post, [(o, ob 0 [.ref n])], [(n, ob 1 [.ref lm, .ref lb, .ref lr, .int (nLo P), .int ((nNow P) + 1)])], wm, wb, wr, wq, fz]) rfl ?_
  refine g_fl (cs1 := [(pre ++ (wk26 ++ (post))), [(o, ob 0 [.ref n])], [(n, ob 1 [.ref lm, .ref lb, .ref lr, .int (nLo P), .int ((nNow P) + 1)])], wm, wb, wr, wq, fz]) (by simp only [List.flatten_cons, List.flatten_nil, List.cons_append, List.append_assoc, List.nil_append, List.append_nil]) ?_
  have hML27 : ML E fz lm (List.set (nM P) k (mFollow M)) wm (pre ++ (wk26 ++ (post))) := hMc _ _ _ Ext.rfl' hM25
  generalize (pre ++ (wk26 ++ (post))) = wM28 at hML27 ⊢
  refine g_pk [1, 1, 1, 0, 0, 0, 0, 0] rfl ?_
  refine g_cs (cs1 := [[(o, ob 0 [.ref n])], [(n, ob 1 [.ref lm, .ref lb, .ref lr, .int (nLo P), .int ((nNow P) + 1)])], wm, wM28, wb, wr, wq, fz]) rfl ?_
  refine g_iret hX (pc := 45) hR ?_ (by omega) (by omega) dX1_start_45
  rw [show oStart P k = nSet P k (mFollow M) from by unfold oStart; rw [mAt_get hM]]
  exact ⟨_, _, _, _, Ext.rfl', hML27, hB, hRq, rfl, rfl⟩

set_option maxHeartbeats 4000000 in
theorem mt_Q_save (E : EE) (l : Launch) (o : Nat) (n : Nat) (lm : Nat) (lb : Nat) (lr : Nat) (P : PN) (wm : va_W) (wM : va_W) (wb : va_W) (wr : va_W) (wq : va_W) (fz : va_W) (k : Nat) (M : PM) (b : Nat) (hML : ML E fz lm (nM P) wm wM) (hB : BL E fz lb (nB P) wb) (hRq : RL E lr (nR P) wr wq) (hP : (nOK b P)) (hb : (b ≤ 32)) (hM : ((nM P)[k]? = some M)) (hu : (¬ mR M = 0)) : Mt E l yX1_save cX1_save 3 (some .int) 9 6 89 213 [.ref o, .int (nI k)] [[(o, ob 0 [.ref n])], [(n, ob 1 [.ref lm, .ref lb, .ref lr, .int (nLo P), .int (nNow P)])], wm, wM, wb, wr, wq, fz] (fun (v_ : Option Value) (cs_ : List va_W) => ∃ (fz1 : va_W) (w1 : va_W) (w2 : va_W) (w3 : va_W), Ext E fz fz1 ∧ ML E fz1 lm (nM (oSave P k)) wm w1 ∧ BL E fz1 lb (nB (oSave P k)) w2 ∧ RL E lr (nR (oSave P k)) wr w3 ∧ v_ = some (.int (nI (List.length (lE (mL M))))) ∧ cs_ = [[(o, ob 0 [.ref n])], [(n, ob 1 [.ref lm, .ref lb, .ref lr, .int (nLo (oSave P k)), .int (nNow (oSave P k))])], wm, w1, w2, wr, w3, fz1]) := by
  obtain ⟨mas, m, wk, pre, post, hAm, hml, hmk, hMk, rfl, hMc⟩ := ml_focus hML hM
  have hl5 : mas.length ≤ 5 := by rw [hml]; exact hP.1
  have hkl : k < (nM P).length := (List.getElem?_eq_some_iff.mp hM).1
  have hn30 : (nB P).length ≤ 30 := hP.2.1
  have hrq2 := hP.2.2.1
  have h40 := hrq2.1
  obtain ⟨m1, m2, m3⟩ := hP.2.2.2.1 _ _ hM
  rw [← hml] at m1
  obtain ⟨⟨o1, o2⟩, ⟨o3, o4⟩, ⟨o5, o6, o7, o8⟩, ⟨o9, o10⟩, o11, o12⟩ := m1
  have m1 : mOK mas.length (nR P).length b M := ⟨⟨o1, o2⟩, ⟨o3, o4⟩, ⟨o5, o6, o7, o8⟩, ⟨o9, o10⟩, o11, o12⟩
  have hll : lLast (mL M) = lB (mL M) + (lE (mL M)).length := rfl
  have hlv : lLast (mV M) = lB (mV M) + (lE (mV M)).length := rfl
  refine Mt.of (by decide) (Nat.le_of_ble_eq_true rfl) (fun X hX hR hin => ?_)
  refine g_lv1 (lv1 := [(0, .ref o), (1, .int (nI k))]) rfl ?_
  refine g_fl (cs1 := [[(o, ob 0 [.ref n])], [(n, ob 1 [.ref lm, .ref lb, .ref lr, .int (nLo P), .int (nNow P)])], wm, pre, wk, post, wb, wr, wq, fz]) (by simp only [List.flatten_cons, List.flatten_nil, List.cons_append, List.append_assoc, List.nil_append, List.append_nil]) ?_
  refine g_aload_n hX (pc := 0) dX1_save_0 0 rfl ?_
  refine g_iload_n hX (pc := 1) dX1_save_1 1 rfl ?_
  refine g_callV hX (pc := 2) kX1_upAt (mt_Q_upAt E l o n lm lb lr (nLo P) (nNow P) mas wm k m M wk fz hAm hMk (hmk) (hl5) (by omega)) q1380 fcX1 (sp_mem (i := 0) rfl) [0, 0, 0, 1] rfl rfl rfl (Nat.le_of_ble_eq_true rfl) (Nat.le_of_ble_eq_true rfl) (Nat.le_of_ble_eq_true rfl) (by omega) (by omega) dX1_save_2 (fun v w1 hp => ?_)
  obtain ⟨rfl, rfl⟩ := hp
  refine g_nrm (cs1 := [[(o, ob 0 [.ref n])], [(n, ob 1 [.ref lm, .ref lb, .ref lr, .int (nLo P), .int (nNow P)])], wm, wk, pre, post, wb, wr, wq, fz]) (st1 := [.ref m]) rfl rfl ?_
  refine g_astore_n hX (pc := 5) (lv1 := [(2, .ref m), (0, .ref o), (1, .int (nI k))]) dX1_save_5 (by decide) rfl ?_
  refine g_aload_n hX (pc := 6) dX1_save_6 1 rfl ?_
  refine g_get hX (pc := 7) fcX1 0 rfl 0 (by decide) q176 rfl (v := .ref n) rfl dX1_save_7 ?_
  refine g_dup hX (pc := 10) dX1_save_10 rfl ?_
  refine g_getN hX (pc := 11) fcX2 1 rfl 4 (by decide) q164 rfl (v := .int (nNow P)) rfl dX1_save_11 ?_
  refine g_iconst hX (pc := 14) (v := 1) dX1_save_14 (by decide) ?_
  refine g_iadd hX (pc := 15) dX1_save_15 ?_
  refine g_putN hX (pc := 16) fcX2 1 (fs1 := [.ref lm, .ref lb, .ref lr, .int (nLo P), .int ((nNow P) + 1)]) (cs1 := [[(o, ob 0 [.ref n])], [(n, ob 1 [.ref lm, .ref lb, .ref lr, .int (nLo P), .int ((nNow P) + 1)])], wm, wk, pre, post, wb, wr, wq, fz]) rfl 4 (by decide) q164 rfl rfl rfl rfl (Nat.le_of_ble_eq_true rfl) rfl rfl dX1_save_16 ?_
  obtain ⟨rn1, rk2, rl3, rs4, rst5, fn6, fk7, wl8, ws9, wst10, hn11, hL12, hV13, hS14, rfl⟩ := hMk
  obtain ⟨la15, sp16, ges17, wl8, hE18, hges19, hsp20, rfl⟩ := hL12
  refine g_fl (cs1 := [[(o, ob 0 [.ref n])], [(n, ob 1 [.ref lm, .ref lb, .ref lr, .int (nLo P), .int ((nNow P) + 1)])], wm, [(m, ob 8 [.int (nI (mN M)), .ref rn1, .ref rk2, .ref rl3, .ref rs4, .ref rst5, .int (mR M), .int (mVt M), .int (nI (mSu M)), .int (nI (mDn M)), .int (bI (mLz M))])], [(rn1, iA (aC E 0) 5 fn6)], [(rk2, iA (aC E 0) 5 fk7)], [(rl3, ob 9 [.ref la15, .int (lT (mL M)), .int (lV (mL M)), .int (nI (lB (mL M))), .int (lBT (mL M)), .ref sp16])], wl8, ws9, wst10, pre, post, wb, wr, wq, fz]) (by simp only [List.flatten_cons, List.flatten_nil, List.cons_append, List.append_assoc, List.nil_append, List.append_nil]) ?_
  have hl_ges17 : List.length ges17 = List.length (lE (mL M)) := by rw [← hges19, List.length_map]
  have hf33 := fl_le33 (n := List.length ges17) (by omega)
  refine g_aload_n hX (pc := 19) dX1_save_19 0 rfl ?_
  refine g_callV hX (pc := 20) kX9_save (mt_Machine_save E l m (nI (mN M)) rn1 rk2 rl3 rs4 rst5 (mR M) (mVt M) (nI (mSu M)) (nI (mDn M)) (bI (mLz M)) la15 (lT (mL M)) (lV (mL M)) (lB (mL M)) (lBT (mL M)) sp16 fz ges17 wl8 hE18 (by omega)) q1372 fcX9 (sp_mem (i := 3) rfl) [3, 5, 5, 12] rfl rfl rfl (Nat.le_of_ble_eq_true rfl) (Nat.le_of_ble_eq_true rfl) (Nat.le_of_ble_eq_true rfl) (by omega) (by omega) dX1_save_20 (fun v w1 hp => ?_)
  obtain ⟨q21, lb22, w123, h24, rfl, rfl⟩ := hp
  refine g_nrm (cs1 := [[(m, ob 8 [.int (nI (mN M)), .ref rn1, .ref rk2, .ref rl3, .ref q21, .ref rst5, .int (mR M), .int (mVt M), .int (nI (mSu M)), .int (nI (mDn M)), .int (bI (mLz M))])], [(q21, ob 9 [.ref lb22, .int (lT (mL M)), .int (lV (mL M)), .int (nI (lB (mL M))), .int (lBT (mL M)), .ref sp16])], w123, [(rl3, ob 9 [.ref la15, .int (lT (mL M)), .int (lV (mL M)), .int (nI (lB (mL M))), .int (lBT (mL M)), .ref sp16])], wl8, fz, [(o, ob 0 [.ref n])], [(n, ob 1 [.ref lm, .ref lb, .ref lr, .int (nLo P), .int ((nNow P) + 1)])], wm, [(rn1, iA (aC E 0) 5 fn6)], [(rk2, iA (aC E 0) 5 fk7)], ws9, wst10, pre, post, wb, wr, wq]) (st1 := []) rfl rfl ?_
  refine g_aload_n hX (pc := 23) dX1_save_23 0 rfl ?_
  refine g_getN hX (pc := 24) fcX9 0 rfl 3 (by decide) q934 rfl (v := .ref rl3) rfl dX1_save_24 ?_
  refine g_getN hX (pc := 27) fcX10 3 rfl 0 (by decide) q841 rfl (v := .ref la15) rfl dX1_save_27 ?_
  obtain ⟨fs25, hm26⟩ := AL.head hE18.1
  refine g_callF hX (pc := 30) kfJ2_size (mt_AL_size E l la15 (List.map Prod.fst ges17) wl8 hE18.1) q738 fcJ2 (sp_in 4 rfl hm26) [4] rfl rfl rfl (Nat.le_of_ble_eq_true rfl) (Nat.le_of_ble_eq_true rfl) (Nat.le_of_ble_eq_true rfl) (by omega) (by omega) dX1_save_30 (fun v w1 hp => ?_)
  obtain ⟨rfl, rfl⟩ := hp
  refine g_nrm (cs1 := [wl8, [(m, ob 8 [.int (nI (mN M)), .ref rn1, .ref rk2, .ref rl3, .ref q21, .ref rst5, .int (mR M), .int (mVt M), .int (nI (mSu M)), .int (nI (mDn M)), .int (bI (mLz M))])], [(q21, ob 9 [.ref lb22, .int (lT (mL M)), .int (lV (mL M)), .int (nI (lB (mL M))), .int (lBT (mL M)), .ref sp16])], w123, [(rl3, ob 9 [.ref la15, .int (lT (mL M)), .int (lV (mL M)), .int (nI (lB (mL M))), .int (lBT (mL M)), .ref sp16])], fz, [(o, ob 0 [.ref n])], [(n, ob 1 [.ref lm, .ref lb, .ref lr, .int (nLo P), .int ((nNow P) + 1)])], wm, [(rn1, iA (aC E 0) 5 fn6)], [(rk2, iA (aC E 0) 5 fk7)], ws9, wst10, pre, post, wb, wr, wq]) (st1 := [.int (nI (List.length (List.map Prod.fst ges17)))]) rfl rfl ?_
  refine g_eqi (nI (List.length (lE (mL M)))) (by rw [List.length_map, hl_ges17]) ?_
  refine g_pk [2, 2] rfl ?_
  refine g_cs (cs1 := [[(q21, ob 9 [.ref lb22, .int (lT (mL M)), .int (lV (mL M)), .int (nI (lB (mL M))), .int (lBT (mL M)), .ref sp16])], w123, wl8, [(m, ob 8 [.int (nI (mN M)), .ref rn1, .ref rk2, .ref rl3, .ref q21, .ref rst5, .int (mR M), .int (mVt M), .int (nI (mSu M)), .int (nI (mDn M)), .int (bI (mLz M))])], [(rl3, ob 9 [.ref la15, .int (lT (mL M)), .int (lV (mL M)), .int (nI (lB (mL M))), .int (lBT (mL M)), .ref sp16])], fz, [(o, ob 0 [.ref n])], [(n, ob 1 [.ref lm, .ref lb, .ref lr, .int (nLo P), .int ((nNow P) + 1)])], wm, [(rn1, iA (aC E 0) 5 fn6)], [(rk2, iA (aC E 0) 5 fk7)], ws9, wst10, pre, post, wb, wr, wq]) rfl ?_
  refine g_fl (cs1 := [((q21, ob 9 [.ref lb22, .int (lT (mL M)), .int (lV (mL M)), .int (nI (lB (mL M))), .int (lBT (mL M)), .ref sp16]) :: (w123)), wl8, [(m, ob 8 [.int (nI (mN M)), .ref rn1, .ref rk2, .ref rl3, .ref q21, .ref rst5, .int (mR M), .int (mVt M), .int (nI (mSu M)), .int (nI (mDn M)), .int (bI (mLz M))])], [(rl3, ob 9 [.ref la15, .int (lT (mL M)), .int (lV (mL M)), .int (nI (lB (mL M))), .int (lBT (mL M)), .ref sp16])], fz, [(o, ob 0 [.ref n])], [(n, ob 1 [.ref lm, .ref lb, .ref lr, .int (nLo P), .int ((nNow P) + 1)])], wm, [(rn1, iA (aC E 0) 5 fn6)], [(rk2, iA (aC E 0) 5 fk7)], ws9, wst10, pre, post, wb, wr, wq]) (by simp only [List.flatten_cons, List.flatten_nil, List.cons_append, List.append_assoc, List.nil_append, List.append_nil]) ?_
  have hL27 : IsLog E fz q21 (mL M) ((q21, ob 9 [.ref lb22, .int (lT (mL M)), .int (lV (mL M)), .int (nI (lB (mL M))), .int (lBT (mL M)), .ref sp16]) :: (w123)) := ⟨_, _, _, _, h24, hges19, hsp20, rfl⟩
  generalize ((q21, ob 9 [.ref lb22, .int (lT (mL M)), .int (lV (mL M)), .int (nI (lB (mL M))), .int (lBT (mL M)), .ref sp16]) :: (w123)) = ws28 at hL27 ⊢
  refine g_pk [2, 7, 7, 2, 1, 0, 5] rfl ?_
  refine g_cs (cs1 := [[(m, ob 8 [.int (nI (mN M)), .ref rn1, .ref rk2, .ref rl3, .ref q21, .ref rst5, .int (mR M), .int (mVt M), .int (nI (mSu M)), .int (nI (mDn M)), .int (bI (mLz M))])], [(rn1, iA (aC E 0) 5 fn6)], [(rk2, iA (aC E 0) 5 fk7)], [(rl3, ob 9 [.ref la15, .int (lT (mL M)), .int (lV (mL M)), .int (nI (lB (mL M))), .int (lBT (mL M)), .ref sp16])], wl8, ws28, wst10, fz, [(o, ob 0 [.ref n])], [(n, ob 1 [.ref lm, .ref lb, .ref lr, .int (nLo P), .int ((nNow P) + 1)])], wm, ws9, pre, post, wb, wr, wq]) rfl ?_
  refine g_fl (cs1 := [((m, ob 8 [.int (nI (mN M)), .ref rn1, .ref rk2, .ref rl3, .ref q21, .ref rst5, .int (mR M), .int (mVt M), .int (nI (mSu M)), .int (nI (mDn M)), .int (bI (mLz M))]) :: (rn1, iA (aC E 0) 5 fn6) :: (rk2, iA (aC E 0) 5 fk7) :: (((rl3, ob 9 [.ref la15, .int (lT (mL M)), .int (lV (mL M)), .int (nI (lB (mL M))), .int (lBT (mL M)), .ref sp16]) :: wl8) ++ (ws28 ++ wst10))), fz, [(o, ob 0 [.ref n])], [(n, ob 1 [.ref lm, .ref lb, .ref lr, .int (nLo P), .int ((nNow P) + 1)])], wm, ws9, pre, post, wb, wr, wq]) (by simp only [List.flatten_cons, List.flatten_nil, List.cons_append, List.append_assoc, List.nil_append, List.append_nil]) ?_
  have hM29 : IsMach E fz m (mSaved M) ((m, ob 8 [.int (nI (mN M)), .ref rn1, .ref rk2, .ref rl3, .ref q21, .ref rst5, .int (mR M), .int (mVt M), .int (nI (mSu M)), .int (nI (mDn M)), .int (bI (mLz M))]) :: (rn1, iA (aC E 0) 5 fn6) :: (rk2, iA (aC E 0) 5 fk7) :: (((rl3, ob 9 [.ref la15, .int (lT (mL M)), .int (lV (mL M)), .int (nI (lB (mL M))), .int (lBT (mL M)), .ref sp16]) :: wl8) ++ (ws28 ++ wst10))) := ⟨_, _, _, _, _, _, _, _, _, _, hn11, ⟨_, _, _, _, hE18, hges19, hsp20, rfl⟩, hL27, hS14, rfl⟩
  generalize ((m, ob 8 [.int (nI (mN M)), .ref rn1, .ref rk2, .ref rl3, .ref q21, .ref rst5, .int (mR M), .int (mVt M), .int (nI (mSu M)), .int (nI (mDn M)), .int (bI (mLz M))]) :: (rn1, iA (aC E 0) 5 fn6) :: (rk2, iA (aC E 0) 5 fk7) :: (((rl3, ob 9 [.ref la15, .int (lT (mL M)), .int (lV (mL M)), .int (nI (lB (mL M))), .int (lBT (mL M)), .ref sp16]) :: wl8) ++ (ws28 ++ wst10))) = wk30 at hM29 ⊢
  refine g_drop (cs1 := [wk30, fz, [(o, ob 0 [.ref n])], [(n, ob 1 [.ref lm, .ref lb, .ref lr, .int (nLo P), .int ((nNow P) + 1)])], wm, pre, post, wb, wr, wq]) [5] rfl ?_
  refine g_pk [5, 0, 4] rfl ?_
  refine g_cs (cs1 := [pre, wk30, post, fz, [(o, ob 0 [.ref n])], [(n, ob 1 [.ref lm, .ref lb, .ref lr, .int (nLo P), .int ((nNow P) + 1)])], wm, wb, wr, wq]) rfl ?_
  refine g_fl (cs1 := [(pre ++ (wk30 ++ (post))), fz, [(o, ob 0 [.ref n])], [(n, ob 1 [.ref lm, .ref lb, .ref lr, .int (nLo P), .int ((nNow P) + 1)])], wm, wb, wr, wq]) (by simp only [List.flatten_cons, List.flatten_nil, List.cons_append, List.append_assoc, List.nil_append, List.append_nil]) ?_
  have hML31 : ML E fz lm (List.set (nM P) k (mSaved M)) wm (pre ++ (wk30 ++ (post))) := hMc _ _ _ Ext.rfl' hM29
  generalize (pre ++ (wk30 ++ (post))) = wM32 at hML31 ⊢
  refine g_pk [2, 2, 2, 0, 1, 1, 1, 0] rfl ?_
  refine g_cs (cs1 := [[(o, ob 0 [.ref n])], [(n, ob 1 [.ref lm, .ref lb, .ref lr, .int (nLo P), .int ((nNow P) + 1)])], wm, wM32, wb, wr, wq, fz]) rfl ?_
  refine g_iret hX (pc := 35) hR ?_ (by omega) (by omega) dX1_save_35
  rw [show oSave P k = nSet P k (mSaved M) from by unfold oSave; rw [mAt_get hM]]
  exact ⟨_, _, _, _, Ext.rfl', hML31, hB, hRq, rfl, rfl⟩

set_option maxHeartbeats 4000000 in
theorem mt_Q_compact (E : EE) (l : Launch) (o : Nat) (n : Nat) (lm : Nat) (lb : Nat) (lr : Nat) (P : PN) (wm : va_W) (wM : va_W) (wb : va_W) (wr : va_W) (wq : va_W) (fz : va_W) (k : Nat) (M : PM) (b : Nat) (hML : ML E fz lm (nM P) wm wM) (hB : BL E fz lb (nB P) wb) (hRq : RL E lr (nR P) wr wq) (hP : (nOK b P)) (hb : (b ≤ 32)) (hM : ((nM P)[k]? = some M)) (hu : (¬ mR M = 0)) : Mt E l yX1_compact cX1_compact 3 (some .int) 11 13 120 259 [.ref o, .int (nI k)] [[(o, ob 0 [.ref n])], [(n, ob 1 [.ref lm, .ref lb, .ref lr, .int (nLo P), .int (nNow P)])], wm, wM, wb, wr, wq, fz] (fun (v_ : Option Value) (cs_ : List va_W) => ∃ (fz1 : va_W) (w1 : va_W) (w2 : va_W) (w3 : va_W), Ext E fz fz1 ∧ ML E fz1 lm (nM (oComp P k)) wm w1 ∧ BL E fz1 lb (nB (oComp P k)) w2 ∧ RL E lr (nR (oComp P k)) wr w3 ∧ v_ = some (.int (nI (compN M))) ∧ cs_ = [[(o, ob 0 [.ref n])], [(n, ob 1 [.ref lm, .ref lb, .ref lr, .int (nLo (oComp P k)), .int (nNow (oComp P k))])], wm, w1, w2, wr, w3, fz1]) := by
  obtain ⟨mas, m, wk, pre, post, hAm, hml, hmk, hMk, rfl, hMc⟩ := ml_focus hML hM
  have hl5 : mas.length ≤ 5 := by rw [hml]; exact hP.1
  have hkl : k < (nM P).length := (List.getElem?_eq_some_iff.mp hM).1
  have hn30 : (nB P).length ≤ 30 := hP.2.1
  have hrq2 := hP.2.2.1
  have h40 := hrq2.1
  obtain ⟨m1, m2, m3⟩ := hP.2.2.2.1 _ _ hM
  rw [← hml] at m1
  obtain ⟨⟨o1, o2⟩, ⟨o3, o4⟩, ⟨o5, o6, o7, o8⟩, ⟨o9, o10⟩, o11, o12⟩ := m1
  have m1 : mOK mas.length (nR P).length b M := ⟨⟨o1, o2⟩, ⟨o3, o4⟩, ⟨o5, o6, o7, o8⟩, ⟨o9, o10⟩, o11, o12⟩
  have hll : lLast (mL M) = lB (mL M) + (lE (mL M)).length := rfl
  have hlv : lLast (mV M) = lB (mV M) + (lE (mV M)).length := rfl
  refine Mt.of (by decide) (Nat.le_of_ble_eq_true rfl) (fun X hX hR hin => ?_)
  refine g_lv1 (lv1 := [(0, .ref o), (1, .int (nI k))]) rfl ?_
  refine g_fl (cs1 := [[(o, ob 0 [.ref n])], [(n, ob 1 [.ref lm, .ref lb, .ref lr, .int (nLo P), .int (nNow P)])], wm, pre, wk, post, wb, wr, wq, fz]) (by simp only [List.flatten_cons, List.flatten_nil, List.cons_append, List.append_assoc, List.nil_append, List.append_nil]) ?_
  refine g_aload_n hX (pc := 0) dX1_compact_0 0 rfl ?_
  refine g_iload_n hX (pc := 1) dX1_compact_1 1 rfl ?_
  refine g_callV hX (pc := 2) kX1_upAt (mt_Q_upAt E l o n lm lb lr (nLo P) (nNow P) mas wm k m M wk fz hAm hMk (hmk) (hl5) (by omega)) q1380 fcX1 (sp_mem (i := 0) rfl) [0, 0, 0, 1] rfl rfl rfl (Nat.le_of_ble_eq_true rfl) (Nat.le_of_ble_eq_true rfl) (Nat.le_of_ble_eq_true rfl) (by omega) (by omega) dX1_compact_2 (fun v w1 hp => ?_)
  obtain ⟨rfl, rfl⟩ := hp
  refine g_nrm (cs1 := [[(o, ob 0 [.ref n])], [(n, ob 1 [.ref lm, .ref lb, .ref lr, .int (nLo P), .int (nNow P)])], wm, wk, pre, post, wb, wr, wq, fz]) (st1 := [.ref m]) rfl rfl ?_
  refine g_astore_n hX (pc := 5) (lv1 := [(2, .ref m), (0, .ref o), (1, .int (nI k))]) dX1_compact_5 (by decide) rfl ?_
  refine g_aload_n hX (pc := 6) dX1_compact_6 1 rfl ?_
  refine g_get hX (pc := 7) fcX1 0 rfl 0 (by decide) q176 rfl (v := .ref n) rfl dX1_compact_7 ?_
  refine g_dup hX (pc := 10) dX1_compact_10 rfl ?_
  refine g_getN hX (pc := 11) fcX2 1 rfl 4 (by decide) q164 rfl (v := .int (nNow P)) rfl dX1_compact_11 ?_
  refine g_iconst hX (pc := 14) (v := 1) dX1_compact_14 (by decide) ?_
  refine g_iadd hX (pc := 15) dX1_compact_15 ?_
  refine g_putN hX (pc := 16) fcX2 1 (fs1 := [.ref lm, .ref lb, .ref lr, .int (nLo P), .int ((nNow P) + 1)]) (cs1 := [[(o, ob 0 [.ref n])], [(n, ob 1 [.ref lm, .ref lb, .ref lr, .int (nLo P), .int ((nNow P) + 1)])], wm, wk, pre, post, wb, wr, wq, fz]) rfl 4 (by decide) q164 rfl rfl rfl rfl (Nat.le_of_ble_eq_true rfl) rfl rfl dX1_compact_16 ?_
  refine g_aload_n hX (pc := 19) dX1_compact_19 1 rfl ?_
  refine g_get hX (pc := 20) fcX1 0 rfl 0 (by decide) q176 rfl (v := .ref n) rfl dX1_compact_20 ?_
  refine g_aload_n hX (pc := 23) dX1_compact_23 0 rfl ?_
  refine g_callV hX (pc := 24) kX2_compact (mt_Net_compact E l n lm lb lr (nLo P) ((nNow P) + 1) mas wm m M wk fz (nR P) wr wq b hAm hMk hRq (m1) (hrq2) (by omega)) q1505 fcX2 (sp_mem (i := 1) rfl) [1, 1, 1, 4, 4, 4] rfl rfl rfl (Nat.le_of_ble_eq_true rfl) (Nat.le_of_ble_eq_true rfl) (Nat.le_of_ble_eq_true rfl) (by omega) (by omega) dX1_compact_24 (fun v w1 hp => ?_)
  obtain ⟨fz11, w12, w23, h4, h5, h6, rfl, rfl⟩ := hp
  refine g_nrm (cs1 := [[(n, ob 1 [.ref lm, .ref lb, .ref lr, .int (nLo P), .int ((nNow P) + 1)])], wm, w12, wr, w23, fz11, [(o, ob 0 [.ref n])], pre, post, wb]) (st1 := [.int (nI (compN M))]) rfl rfl ?_
  have h7 := ML.mono h4 hML
  have h8 := BL.mono h4 hB
  have h9 := IsMach.mono h4 hMk
  refine g_pk [7, 2, 6] rfl ?_
  refine g_cs (cs1 := [pre, w12, post, [(n, ob 1 [.ref lm, .ref lb, .ref lr, .int (nLo P), .int ((nNow P) + 1)])], wm, wr, w23, fz11, [(o, ob 0 [.ref n])], wb]) rfl ?_
  refine g_fl (cs1 := [(pre ++ (w12 ++ (post))), [(n, ob 1 [.ref lm, .ref lb, .ref lr, .int (nLo P), .int ((nNow P) + 1)])], wm, wr, w23, fz11, [(o, ob 0 [.ref n])], wb]) (by simp only [List.flatten_cons, List.flatten_nil, List.cons_append, List.append_assoc, List.nil_append, List.append_nil]) ?_
  have hML10 : ML E fz11 lm (List.set (nM P) k (Prod.fst (settle (List.length mas) ((nNow P) + 1) (mComp M) (nR P)))) wm (pre ++ (w12 ++ (post))) := hMc _ _ _ h4 h5
  generalize (pre ++ (w12 ++ (post))) = wM11 at hML10 ⊢
  refine g_pk [6, 1, 1, 0, 3, 0, 0, 0] rfl ?_
  refine g_cs (cs1 := [[(o, ob 0 [.ref n])], [(n, ob 1 [.ref lm, .ref lb, .ref lr, .int (nLo P), .int ((nNow P) + 1)])], wm, wM11, wb, wr, w23, fz11]) rfl ?_
  refine g_iret hX (pc := 27) hR ?_ (by omega) (by omega) dX1_compact_27
  have eX : xComp P k = (settle (List.length mas) (nNow P + 1) (mComp M) (nR P)) := by unfold xComp; rw [mAt_get hM, hml]
  rw [show oComp P k = ((nM P).set k (settle (List.length mas) (nNow P + 1) (mComp M) (nR P)).1, nB P, (settle (List.length mas) (nNow P + 1) (mComp M) (nR P)).2, nLo P, nNow P + 1) from by unfold oComp; rw [eX]]
  exact ⟨_, _, _, _, h4, hML10, h8, h6, rfl, rfl⟩

set_option maxHeartbeats 4000000 in
theorem mt_Q_lazy (E : EE) (l : Launch) (o : Nat) (n : Nat) (lm : Nat) (lb : Nat) (lr : Nat) (P : PN) (wm : va_W) (wM : va_W) (wb : va_W) (wr : va_W) (wq : va_W) (fz : va_W) (k : Nat) (M : PM) (b : Nat) (z : Bool) (hML : ML E fz lm (nM P) wm wM) (hB : BL E fz lb (nB P) wb) (hRq : RL E lr (nR P) wr wq) (hP : (nOK b P)) (hb : (b ≤ 32)) (hM : ((nM P)[k]? = some M)) : Mt E l yX1_lazy cX1_lazy 5 (some .boolean) 9 6 89 213 [.ref o, .int (nI k), .int (bI z)] [[(o, ob 0 [.ref n])], [(n, ob 1 [.ref lm, .ref lb, .ref lr, .int (nLo P), .int (nNow P)])], wm, wM, wb, wr, wq, fz] (fun (v_ : Option Value) (cs_ : List va_W) => ∃ (fz1 : va_W) (w1 : va_W) (w2 : va_W) (w3 : va_W), Ext E fz fz1 ∧ ML E fz1 lm (nM (oLazy P k z)) wm w1 ∧ BL E fz1 lb (nB (oLazy P k z)) w2 ∧ RL E lr (nR (oLazy P k z)) wr w3 ∧ v_ = some (.int (bI (mLz M))) ∧ cs_ = [[(o, ob 0 [.ref n])], [(n, ob 1 [.ref lm, .ref lb, .ref lr, .int (nLo (oLazy P k z)), .int (nNow (oLazy P k z))])], wm, w1, w2, wr, w3, fz1]) := by
  obtain ⟨mas, m, wk, pre, post, hAm, hml, hmk, hMk, rfl, hMc⟩ := ml_focus hML hM
  have hl5 : mas.length ≤ 5 := by rw [hml]; exact hP.1
  have hkl : k < (nM P).length := (List.getElem?_eq_some_iff.mp hM).1
  have hn30 : (nB P).length ≤ 30 := hP.2.1
  have hrq2 := hP.2.2.1
  have h40 := hrq2.1
  obtain ⟨m1, m2, m3⟩ := hP.2.2.2.1 _ _ hM
  rw [← hml] at m1
  obtain ⟨⟨o1, o2⟩, ⟨o3, o4⟩, ⟨o5, o6, o7, o8⟩, ⟨o9, o10⟩, o11, o12⟩ := m1
  have m1 : mOK mas.length (nR P).length b M := ⟨⟨o1, o2⟩, ⟨o3, o4⟩, ⟨o5, o6, o7, o8⟩, ⟨o9, o10⟩, o11, o12⟩
  have hll : lLast (mL M) = lB (mL M) + (lE (mL M)).length := rfl
  have hlv : lLast (mV M) = lB (mV M) + (lE (mV M)).length := rfl
  refine Mt.of (by decide) (Nat.le_of_ble_eq_true rfl) (fun X hX hR hin => ?_)
  refine g_lv1 (lv1 := [(0, .ref o), (1, .int (nI k)), (2, .int (bI z))]) rfl ?_
  refine g_fl (cs1 := [[(o, ob 0 [.ref n])], [(n, ob 1 [.ref lm, .ref lb, .ref lr, .int (nLo P), .int (nNow P)])], wm, pre, wk, post, wb, wr, wq, fz]) (by simp only [List.flatten_cons, List.flatten_nil, List.cons_append, List.append_assoc, List.nil_append, List.append_nil]) ?_
  refine g_aload_n hX (pc := 0) dX1_lazy_0 0 rfl ?_
  refine g_iload_n hX (pc := 1) dX1_lazy_1 1 rfl ?_
  refine g_callV hX (pc := 2) kX1_machineAt (mt_Q_machineAt E l o n lm lb lr (nLo P) (nNow P) mas wm k m M wk fz hAm hMk (hmk) (hl5)) q1360 fcX1 (sp_mem (i := 0) rfl) [0, 0, 0, 1] rfl rfl rfl (Nat.le_of_ble_eq_true rfl) (Nat.le_of_ble_eq_true rfl) (Nat.le_of_ble_eq_true rfl) (by omega) (by omega) dX1_lazy_2 (fun v w1 hp => ?_)
  obtain ⟨rfl, rfl⟩ := hp
  refine g_nrm (cs1 := [[(o, ob 0 [.ref n])], [(n, ob 1 [.ref lm, .ref lb, .ref lr, .int (nLo P), .int (nNow P)])], wm, wk, pre, post, wb, wr, wq, fz]) (st1 := [.ref m]) rfl rfl ?_
  refine g_astore_n hX (pc := 5) (lv1 := [(3, .ref m), (0, .ref o), (1, .int (nI k)), (2, .int (bI z))]) dX1_lazy_5 (by decide) rfl ?_
  obtain ⟨rn1, rk2, rl3, rs4, rst5, fn6, fk7, wl8, ws9, wst10, hn11, hL12, hV13, hS14, rfl⟩ := hMk
  obtain ⟨la15, sp16, ges17, wl8, hE18, hges19, hsp20, rfl⟩ := hL12
  refine g_fl (cs1 := [[(o, ob 0 [.ref n])], [(n, ob 1 [.ref lm, .ref lb, .ref lr, .int (nLo P), .int (nNow P)])], wm, [(m, ob 8 [.int (nI (mN M)), .ref rn1, .ref rk2, .ref rl3, .ref rs4, .ref rst5, .int (mR M), .int (mVt M), .int (nI (mSu M)), .int (nI (mDn M)), .int (bI (mLz M))])], [(rn1, iA (aC E 0) 5 fn6)], [(rk2, iA (aC E 0) 5 fk7)], [(rl3, ob 9 [.ref la15, .int (lT (mL M)), .int (lV (mL M)), .int (nI (lB (mL M))), .int (lBT (mL M)), .ref sp16])], wl8, ws9, wst10, pre, post, wb, wr, wq, fz]) (by simp only [List.flatten_cons, List.flatten_nil, List.cons_append, List.append_assoc, List.nil_append, List.append_nil]) ?_
  have hl_ges17 : List.length ges17 = List.length (lE (mL M)) := by rw [← hges19, List.length_map]
  have hf33 := fl_le33 (n := List.length ges17) (by omega)
  refine g_aload_n hX (pc := 6) dX1_lazy_6 0 rfl ?_
  refine g_getN hX (pc := 7) fcX9 3 rfl 10 (by decide) q950 rfl (v := .int (bI (mLz M))) rfl dX1_lazy_7 ?_
  refine g_istore hX (pc := 10) (lv1 := [(4, .int (bI (mLz M))), (3, .ref m), (0, .ref o), (1, .int (nI k)), (2, .int (bI z))]) dX1_lazy_10 (by decide) rfl ?_
  refine g_aload_n hX (pc := 12) dX1_lazy_12 1 rfl ?_
  refine g_iload_n hX (pc := 13) dX1_lazy_13 4 rfl ?_
  refine g_putN hX (pc := 14) fcX9 3 (fs1 := [.int (nI (mN M)), .ref rn1, .ref rk2, .ref rl3, .ref rs4, .ref rst5, .int (mR M), .int (mVt M), .int (nI (mSu M)), .int (nI (mDn M)), .int (bI z)]) (cs1 := [[(o, ob 0 [.ref n])], [(n, ob 1 [.ref lm, .ref lb, .ref lr, .int (nLo P), .int (nNow P)])], wm, [(m, ob 8 [.int (nI (mN M)), .ref rn1, .ref rk2, .ref rl3, .ref rs4, .ref rst5, .int (mR M), .int (mVt M), .int (nI (mSu M)), .int (nI (mDn M)), .int (bI z)])], [(rn1, iA (aC E 0) 5 fn6)], [(rk2, iA (aC E 0) 5 fk7)], [(rl3, ob 9 [.ref la15, .int (lT (mL M)), .int (lV (mL M)), .int (nI (lB (mL M))), .int (lBT (mL M)), .ref sp16])], wl8, ws9, wst10, pre, post, wb, wr, wq, fz]) rfl 10 (by decide) q950 rfl rfl (bI_n _) (bI_f _) (Nat.le_of_ble_eq_true rfl) rfl rfl dX1_lazy_14 ?_
  refine g_iload_n hX (pc := 17) dX1_lazy_17 4 rfl ?_
  refine g_if_ne hX (pc := 18) (tgt := 32) dX1_lazy_18 rfl (fun c21_ => ?_) (fun c21_ => ?_)
  · have c21 := mt bI_0.mpr c21_
    refine g_iload hX (pc := 32) dX1_lazy_32 0 rfl ?_
    refine g_pk [3, 3, 3, 3, 3, 3, 3] rfl ?_
    refine g_cs (cs1 := [[(m, ob 8 [.int (nI (mN M)), .ref rn1, .ref rk2, .ref rl3, .ref rs4, .ref rst5, .int (mR M), .int (mVt M), .int (nI (mSu M)), .int (nI (mDn M)), .int (bI z)])], [(rn1, iA (aC E 0) 5 fn6)], [(rk2, iA (aC E 0) 5 fk7)], [(rl3, ob 9 [.ref la15, .int (lT (mL M)), .int (lV (mL M)), .int (nI (lB (mL M))), .int (lBT (mL M)), .ref sp16])], wl8, ws9, wst10, [(o, ob 0 [.ref n])], [(n, ob 1 [.ref lm, .ref lb, .ref lr, .int (nLo P), .int (nNow P)])], wm, pre, post, wb, wr, wq, fz]) rfl ?_
    refine g_fl (cs1 := [((m, ob 8 [.int (nI (mN M)), .ref rn1, .ref rk2, .ref rl3, .ref rs4, .ref rst5, .int (mR M), .int (mVt M), .int (nI (mSu M)), .int (nI (mDn M)), .int (bI z)]) :: (rn1, iA (aC E 0) 5 fn6) :: (rk2, iA (aC E 0) 5 fk7) :: (((rl3, ob 9 [.ref la15, .int (lT (mL M)), .int (lV (mL M)), .int (nI (lB (mL M))), .int (lBT (mL M)), .ref sp16]) :: wl8) ++ (ws9 ++ wst10))), [(o, ob 0 [.ref n])], [(n, ob 1 [.ref lm, .ref lb, .ref lr, .int (nLo P), .int (nNow P)])], wm, pre, post, wb, wr, wq, fz]) (by simp only [List.flatten_cons, List.flatten_nil, List.cons_append, List.append_assoc, List.nil_append, List.append_nil]) ?_
    have hM22 : IsMach E fz m (setLz M z) ((m, ob 8 [.int (nI (mN M)), .ref rn1, .ref rk2, .ref rl3, .ref rs4, .ref rst5, .int (mR M), .int (mVt M), .int (nI (mSu M)), .int (nI (mDn M)), .int (bI z)]) :: (rn1, iA (aC E 0) 5 fn6) :: (rk2, iA (aC E 0) 5 fk7) :: (((rl3, ob 9 [.ref la15, .int (lT (mL M)), .int (lV (mL M)), .int (nI (lB (mL M))), .int (lBT (mL M)), .ref sp16]) :: wl8) ++ (ws9 ++ wst10))) := ⟨_, _, _, _, _, _, _, _, _, _, hn11, ⟨_, _, _, _, hE18, hges19, hsp20, rfl⟩, hV13, hS14, rfl⟩
    generalize ((m, ob 8 [.int (nI (mN M)), .ref rn1, .ref rk2, .ref rl3, .ref rs4, .ref rst5, .int (mR M), .int (mVt M), .int (nI (mSu M)), .int (nI (mDn M)), .int (bI z)]) :: (rn1, iA (aC E 0) 5 fn6) :: (rk2, iA (aC E 0) 5 fk7) :: (((rl3, ob 9 [.ref la15, .int (lT (mL M)), .int (lV (mL M)), .int (nI (lB (mL M))), .int (lBT (mL M)), .ref sp16]) :: wl8) ++ (ws9 ++ wst10))) = wk23 at hM22 ⊢
    refine g_pk [4, 0, 3] rfl ?_
    refine g_cs (cs1 := [pre, wk23, post, [(o, ob 0 [.ref n])], [(n, ob 1 [.ref lm, .ref lb, .ref lr, .int (nLo P), .int (nNow P)])], wm, wb, wr, wq, fz]) rfl ?_
    refine g_fl (cs1 := [(pre ++ (wk23 ++ (post))), [(o, ob 0 [.ref n])], [(n, ob 1 [.ref lm, .ref lb, .ref lr, .int (nLo P), .int (nNow P)])], wm, wb, wr, wq, fz]) (by simp only [List.flatten_cons, List.flatten_nil, List.cons_append, List.append_assoc, List.nil_append, List.append_nil]) ?_
    have hML24 : ML E fz lm (List.set (nM P) k (setLz M z)) wm (pre ++ (wk23 ++ (post))) := hMc _ _ _ Ext.rfl' hM22
    generalize (pre ++ (wk23 ++ (post))) = wM25 at hML24 ⊢
    refine g_pk [1, 1, 1, 0, 0, 0, 0, 0] rfl ?_
    refine g_cs (cs1 := [[(o, ob 0 [.ref n])], [(n, ob 1 [.ref lm, .ref lb, .ref lr, .int (nLo P), .int (nNow P)])], wm, wM25, wb, wr, wq, fz]) rfl ?_
    refine g_zret hX (pc := 34) hR (bI_n _) ?_ (by omega) (by omega) dX1_lazy_34
    rw [show oLazy P k z = ((nM P).set k (setLz M z), nB P, nR P, nLo P, nNow P) from by unfold oLazy; rw [mAt_get hM, mLazy_n (fun z => c21 z.1)]]
    exact ⟨_, _, _, _, Ext.rfl', hML24, hB, hRq, rfl, rfl⟩
  · have c21 := bI_0.mp c21_
    refine g_aload_n hX (pc := 21) dX1_lazy_21 1 rfl ?_
    refine g_callV hX (pc := 22) kX9_isUp (mt_Machine_isUp E l m (nI (mN M)) rn1 rk2 rl3 rs4 rst5 (mR M) (mVt M) (nI (mSu M)) (nI (mDn M)) (bI z)) q1035 fcX9 (sp_mem (i := 3) rfl) [3] rfl rfl rfl (Nat.le_of_ble_eq_true rfl) (Nat.le_of_ble_eq_true rfl) (Nat.le_of_ble_eq_true rfl) (by omega) (by omega) dX1_lazy_22 (fun v w1 hp => ?_)
    obtain ⟨rfl, rfl⟩ := hp
    refine g_nrm (cs1 := [[(m, ob 8 [.int (nI (mN M)), .ref rn1, .ref rk2, .ref rl3, .ref rs4, .ref rst5, .int (mR M), .int (mVt M), .int (nI (mSu M)), .int (nI (mDn M)), .int (bI z)])], [(o, ob 0 [.ref n])], [(n, ob 1 [.ref lm, .ref lb, .ref lr, .int (nLo P), .int (nNow P)])], wm, [(rn1, iA (aC E 0) 5 fn6)], [(rk2, iA (aC E 0) 5 fk7)], [(rl3, ob 9 [.ref la15, .int (lT (mL M)), .int (lV (mL M)), .int (nI (lB (mL M))), .int (lBT (mL M)), .ref sp16])], wl8, ws9, wst10, pre, post, wb, wr, wq, fz]) (st1 := [.int (if (mR M) = 0 then 0 else 1)]) rfl rfl ?_
    refine g_if_eq hX (pc := 25) (tgt := 32) dX1_lazy_25 rfl (fun c26_ => ?_) (fun c26_ => ?_)
    · have c26 := z01.mp c26_
      refine g_iload hX (pc := 32) dX1_lazy_32 0 rfl ?_
      refine g_pk [0, 3, 3, 3, 3, 3, 3] rfl ?_
      refine g_cs (cs1 := [[(m, ob 8 [.int (nI (mN M)), .ref rn1, .ref rk2, .ref rl3, .ref rs4, .ref rst5, .int (mR M), .int (mVt M), .int (nI (mSu M)), .int (nI (mDn M)), .int (bI z)])], [(rn1, iA (aC E 0) 5 fn6)], [(rk2, iA (aC E 0) 5 fk7)], [(rl3, ob 9 [.ref la15, .int (lT (mL M)), .int (lV (mL M)), .int (nI (lB (mL M))), .int (lBT (mL M)), .ref sp16])], wl8, ws9, wst10, [(o, ob 0 [.ref n])], [(n, ob 1 [.ref lm, .ref lb, .ref lr, .int (nLo P), .int (nNow P)])], wm, pre, post, wb, wr, wq, fz]) rfl ?_
      refine g_fl (cs1 := [((m, ob 8 [.int (nI (mN M)), .ref rn1, .ref rk2, .ref rl3, .ref rs4, .ref rst5, .int (mR M), .int (mVt M), .int (nI (mSu M)), .int (nI (mDn M)), .int (bI z)]) :: (rn1, iA (aC E 0) 5 fn6) :: (rk2, iA (aC E 0) 5 fk7) :: (((rl3, ob 9 [.ref la15, .int (lT (mL M)), .int (lV (mL M)), .int (nI (lB (mL M))), .int (lBT (mL M)), .ref sp16]) :: wl8) ++ (ws9 ++ wst10))), [(o, ob 0 [.ref n])], [(n, ob 1 [.ref lm, .ref lb, .ref lr, .int (nLo P), .int (nNow P)])], wm, pre, post, wb, wr, wq, fz]) (by simp only [List.flatten_cons, List.flatten_nil, List.cons_append, List.append_assoc, List.nil_append, List.append_nil]) ?_
      have hM27 : IsMach E fz m (setLz M z) ((m, ob 8 [.int (nI (mN M)), .ref rn1, .ref rk2, .ref rl3, .ref rs4, .ref rst5, .int (mR M), .int (mVt M), .int (nI (mSu M)), .int (nI (mDn M)), .int (bI z)]) :: (rn1, iA (aC E 0) 5 fn6) :: (rk2, iA (aC E 0) 5 fk7) :: (((rl3, ob 9 [.ref la15, .int (lT (mL M)), .int (lV (mL M)), .int (nI (lB (mL M))), .int (lBT (mL M)), .ref sp16]) :: wl8) ++ (ws9 ++ wst10))) := ⟨_, _, _, _, _, _, _, _, _, _, hn11, ⟨_, _, _, _, hE18, hges19, hsp20, rfl⟩, hV13, hS14, rfl⟩
      generalize ((m, ob 8 [.int (nI (mN M)), .ref rn1, .ref rk2, .ref rl3, .ref rs4, .ref rst5, .int (mR M), .int (mVt M), .int (nI (mSu M)), .int (nI (mDn M)), .int (bI z)]) :: (rn1, iA (aC E 0) 5 fn6) :: (rk2, iA (aC E 0) 5 fk7) :: (((rl3, ob 9 [.ref la15, .int (lT (mL M)), .int (lV (mL M)), .int (nI (lB (mL M))), .int (lBT (mL M)), .ref sp16]) :: wl8) ++ (ws9 ++ wst10))) = wk28 at hM27 ⊢
      refine g_pk [4, 0, 3] rfl ?_
      refine g_cs (cs1 := [pre, wk28, post, [(o, ob 0 [.ref n])], [(n, ob 1 [.ref lm, .ref lb, .ref lr, .int (nLo P), .int (nNow P)])], wm, wb, wr, wq, fz]) rfl ?_
      refine g_fl (cs1 := [(pre ++ (wk28 ++ (post))), [(o, ob 0 [.ref n])], [(n, ob 1 [.ref lm, .ref lb, .ref lr, .int (nLo P), .int (nNow P)])], wm, wb, wr, wq, fz]) (by simp only [List.flatten_cons, List.flatten_nil, List.cons_append, List.append_assoc, List.nil_append, List.append_nil]) ?_
      have hML29 : ML E fz lm (List.set (nM P) k (setLz M z)) wm (pre ++ (wk28 ++ (post))) := hMc _ _ _ Ext.rfl' hM27
      generalize (pre ++ (wk28 ++ (post))) = wM30 at hML29 ⊢
      refine g_pk [1, 1, 1, 0, 0, 0, 0, 0] rfl ?_
      refine g_cs (cs1 := [[(o, ob 0 [.ref n])], [(n, ob 1 [.ref lm, .ref lb, .ref lr, .int (nLo P), .int (nNow P)])], wm, wM30, wb, wr, wq, fz]) rfl ?_
      refine g_zret hX (pc := 34) hR (bI_n _) ?_ (by omega) (by omega) dX1_lazy_34
      rw [show oLazy P k z = ((nM P).set k (setLz M z), nB P, nR P, nLo P, nNow P) from by unfold oLazy; rw [mAt_get hM, mLazy_n (fun z => z.2 c26)]]
      exact ⟨_, _, _, _, Ext.rfl', hML29, hB, hRq, rfl, rfl⟩
    · have c26 := z01n.mp c26_
      refine g_aload_n hX (pc := 28) dX1_lazy_28 1 rfl ?_
      refine g_callV hX (pc := 29) kX9_save (mt_Machine_save E l m (nI (mN M)) rn1 rk2 rl3 rs4 rst5 (mR M) (mVt M) (nI (mSu M)) (nI (mDn M)) (bI z) la15 (lT (mL M)) (lV (mL M)) (lB (mL M)) (lBT (mL M)) sp16 fz ges17 wl8 hE18 (by omega)) q1372 fcX9 (sp_mem (i := 0) rfl) [0, 5, 5, 12] rfl rfl rfl (Nat.le_of_ble_eq_true rfl) (Nat.le_of_ble_eq_true rfl) (Nat.le_of_ble_eq_true rfl) (by omega) (by omega) dX1_lazy_29 (fun v w1 hp => ?_)
      obtain ⟨q31, lb32, w133, h34, rfl, rfl⟩ := hp
      refine g_nrm (cs1 := [[(m, ob 8 [.int (nI (mN M)), .ref rn1, .ref rk2, .ref rl3, .ref q31, .ref rst5, .int (mR M), .int (mVt M), .int (nI (mSu M)), .int (nI (mDn M)), .int (bI z)])], [(q31, ob 9 [.ref lb32, .int (lT (mL M)), .int (lV (mL M)), .int (nI (lB (mL M))), .int (lBT (mL M)), .ref sp16])], w133, [(rl3, ob 9 [.ref la15, .int (lT (mL M)), .int (lV (mL M)), .int (nI (lB (mL M))), .int (lBT (mL M)), .ref sp16])], wl8, fz, [(o, ob 0 [.ref n])], [(n, ob 1 [.ref lm, .ref lb, .ref lr, .int (nLo P), .int (nNow P)])], wm, [(rn1, iA (aC E 0) 5 fn6)], [(rk2, iA (aC E 0) 5 fk7)], ws9, wst10, pre, post, wb, wr, wq]) (st1 := []) rfl rfl ?_
      refine g_iload hX (pc := 32) dX1_lazy_32 0 rfl ?_
      refine g_pk [1, 1] rfl ?_
      refine g_cs (cs1 := [[(q31, ob 9 [.ref lb32, .int (lT (mL M)), .int (lV (mL M)), .int (nI (lB (mL M))), .int (lBT (mL M)), .ref sp16])], w133, [(m, ob 8 [.int (nI (mN M)), .ref rn1, .ref rk2, .ref rl3, .ref q31, .ref rst5, .int (mR M), .int (mVt M), .int (nI (mSu M)), .int (nI (mDn M)), .int (bI z)])], [(rl3, ob 9 [.ref la15, .int (lT (mL M)), .int (lV (mL M)), .int (nI (lB (mL M))), .int (lBT (mL M)), .ref sp16])], wl8, fz, [(o, ob 0 [.ref n])], [(n, ob 1 [.ref lm, .ref lb, .ref lr, .int (nLo P), .int (nNow P)])], wm, [(rn1, iA (aC E 0) 5 fn6)], [(rk2, iA (aC E 0) 5 fk7)], ws9, wst10, pre, post, wb, wr, wq]) rfl ?_
      refine g_fl (cs1 := [((q31, ob 9 [.ref lb32, .int (lT (mL M)), .int (lV (mL M)), .int (nI (lB (mL M))), .int (lBT (mL M)), .ref sp16]) :: (w133)), [(m, ob 8 [.int (nI (mN M)), .ref rn1, .ref rk2, .ref rl3, .ref q31, .ref rst5, .int (mR M), .int (mVt M), .int (nI (mSu M)), .int (nI (mDn M)), .int (bI z)])], [(rl3, ob 9 [.ref la15, .int (lT (mL M)), .int (lV (mL M)), .int (nI (lB (mL M))), .int (lBT (mL M)), .ref sp16])], wl8, fz, [(o, ob 0 [.ref n])], [(n, ob 1 [.ref lm, .ref lb, .ref lr, .int (nLo P), .int (nNow P)])], wm, [(rn1, iA (aC E 0) 5 fn6)], [(rk2, iA (aC E 0) 5 fk7)], ws9, wst10, pre, post, wb, wr, wq]) (by simp only [List.flatten_cons, List.flatten_nil, List.cons_append, List.append_assoc, List.nil_append, List.append_nil]) ?_
      have hL35 : IsLog E fz q31 (mL M) ((q31, ob 9 [.ref lb32, .int (lT (mL M)), .int (lV (mL M)), .int (nI (lB (mL M))), .int (lBT (mL M)), .ref sp16]) :: (w133)) := ⟨_, _, _, _, h34, hges19, hsp20, rfl⟩
      generalize ((q31, ob 9 [.ref lb32, .int (lT (mL M)), .int (lV (mL M)), .int (nI (lB (mL M))), .int (lBT (mL M)), .ref sp16]) :: (w133)) = ws36 at hL35 ⊢
      refine g_pk [1, 7, 7, 1, 1, 0, 5] rfl ?_
      refine g_cs (cs1 := [[(m, ob 8 [.int (nI (mN M)), .ref rn1, .ref rk2, .ref rl3, .ref q31, .ref rst5, .int (mR M), .int (mVt M), .int (nI (mSu M)), .int (nI (mDn M)), .int (bI z)])], [(rn1, iA (aC E 0) 5 fn6)], [(rk2, iA (aC E 0) 5 fk7)], [(rl3, ob 9 [.ref la15, .int (lT (mL M)), .int (lV (mL M)), .int (nI (lB (mL M))), .int (lBT (mL M)), .ref sp16])], wl8, ws36, wst10, fz, [(o, ob 0 [.ref n])], [(n, ob 1 [.ref lm, .ref lb, .ref lr, .int (nLo P), .int (nNow P)])], wm, ws9, pre, post, wb, wr, wq]) rfl ?_
      refine g_fl (cs1 := [((m, ob 8 [.int (nI (mN M)), .ref rn1, .ref rk2, .ref rl3, .ref q31, .ref rst5, .int (mR M), .int (mVt M), .int (nI (mSu M)), .int (nI (mDn M)), .int (bI z)]) :: (rn1, iA (aC E 0) 5 fn6) :: (rk2, iA (aC E 0) 5 fk7) :: (((rl3, ob 9 [.ref la15, .int (lT (mL M)), .int (lV (mL M)), .int (nI (lB (mL M))), .int (lBT (mL M)), .ref sp16]) :: wl8) ++ (ws36 ++ wst10))), fz, [(o, ob 0 [.ref n])], [(n, ob 1 [.ref lm, .ref lb, .ref lr, .int (nLo P), .int (nNow P)])], wm, ws9, pre, post, wb, wr, wq]) (by simp only [List.flatten_cons, List.flatten_nil, List.cons_append, List.append_assoc, List.nil_append, List.append_nil]) ?_
      have hM37 : IsMach E fz m (setV (setLz M z) (mL M)) ((m, ob 8 [.int (nI (mN M)), .ref rn1, .ref rk2, .ref rl3, .ref q31, .ref rst5, .int (mR M), .int (mVt M), .int (nI (mSu M)), .int (nI (mDn M)), .int (bI z)]) :: (rn1, iA (aC E 0) 5 fn6) :: (rk2, iA (aC E 0) 5 fk7) :: (((rl3, ob 9 [.ref la15, .int (lT (mL M)), .int (lV (mL M)), .int (nI (lB (mL M))), .int (lBT (mL M)), .ref sp16]) :: wl8) ++ (ws36 ++ wst10))) := ⟨_, _, _, _, _, _, _, _, _, _, hn11, ⟨_, _, _, _, hE18, hges19, hsp20, rfl⟩, hL35, hS14, rfl⟩
      generalize ((m, ob 8 [.int (nI (mN M)), .ref rn1, .ref rk2, .ref rl3, .ref q31, .ref rst5, .int (mR M), .int (mVt M), .int (nI (mSu M)), .int (nI (mDn M)), .int (bI z)]) :: (rn1, iA (aC E 0) 5 fn6) :: (rk2, iA (aC E 0) 5 fk7) :: (((rl3, ob 9 [.ref la15, .int (lT (mL M)), .int (lV (mL M)), .int (nI (lB (mL M))), .int (lBT (mL M)), .ref sp16]) :: wl8) ++ (ws36 ++ wst10))) = wk38 at hM37 ⊢
      refine g_drop (cs1 := [wk38, fz, [(o, ob 0 [.ref n])], [(n, ob 1 [.ref lm, .ref lb, .ref lr, .int (nLo P), .int (nNow P)])], wm, pre, post, wb, wr, wq]) [5] rfl ?_
      refine g_pk [5, 0, 4] rfl ?_
      refine g_cs (cs1 := [pre, wk38, post, fz, [(o, ob 0 [.ref n])], [(n, ob 1 [.ref lm, .ref lb, .ref lr, .int (nLo P), .int (nNow P)])], wm, wb, wr, wq]) rfl ?_
      refine g_fl (cs1 := [(pre ++ (wk38 ++ (post))), fz, [(o, ob 0 [.ref n])], [(n, ob 1 [.ref lm, .ref lb, .ref lr, .int (nLo P), .int (nNow P)])], wm, wb, wr, wq]) (by simp only [List.flatten_cons, List.flatten_nil, List.cons_append, List.append_assoc, List.nil_append, List.append_nil]) ?_
      have hML39 : ML E fz lm (List.set (nM P) k (setV (setLz M z) (mL M))) wm (pre ++ (wk38 ++ (post))) := hMc _ _ _ Ext.rfl' hM37
      generalize (pre ++ (wk38 ++ (post))) = wM40 at hML39 ⊢
      refine g_pk [2, 2, 2, 0, 1, 1, 1, 0] rfl ?_
      refine g_cs (cs1 := [[(o, ob 0 [.ref n])], [(n, ob 1 [.ref lm, .ref lb, .ref lr, .int (nLo P), .int (nNow P)])], wm, wM40, wb, wr, wq, fz]) rfl ?_
      refine g_zret hX (pc := 34) hR (bI_n _) ?_ (by omega) (by omega) dX1_lazy_34
      rw [show oLazy P k z = ((nM P).set k (setV (setLz M z) (mL M)), nB P, nR P, nLo P, nNow P) from by unfold oLazy; rw [mAt_get hM, mLazy_y c21 c26]]
      exact ⟨_, _, _, _, Ext.rfl', hML39, hB, hRq, rfl, rfl⟩
