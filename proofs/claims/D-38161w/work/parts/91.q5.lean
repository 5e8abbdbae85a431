set_option maxHeartbeats 4000000 in
theorem mt_Q_init (E : EE) (l : Launch) (o : Nat) : Mt E l yX1_init cX1_init 1 none 5 4 14 92 [.ref o] [[(o, ob 0 [.null])]] (fun (v_ : Option Value) (cs_ : List va_W) => ∃ (n : Nat) (lm : Nat) (lb : Nat) (lr : Nat) (w1 : va_W) (w2 : va_W) (w3 : va_W), ALc E lm [] 0 w1 ∧ ALc E lb [] 0 w2 ∧ ALc E lr [] 0 w3 ∧ v_ = none ∧ cs_ = [[(o, ob 0 [.ref n])], [(n, ob 1 [.ref lm, .ref lb, .ref lr, .int 0, .int 0])], w1, w2, w3]) := by
  refine Mt.of (by decide) (Nat.le_of_ble_eq_true rfl) (fun X hX hR hin => ?_)
  refine g_lv1 (lv1 := [(0, .ref o)]) rfl ?_
  refine g_aload_n hX (pc := 0) dX1_init_0 0 rfl ?_
  refine g_objInit hX (pc := 1) q117 q_oi1 q_oi2 (Nat.le_of_ble_eq_true rfl) (Nat.le_of_ble_eq_true rfl) dX1_init_1 ?_
  refine g_aload_n hX (pc := 4) dX1_init_4 0 rfl ?_
  refine g_new hX (pc := 5) fcX2 q120 q121 q70 (fs := [.null, .null, .null, .int 0, .int 0]) (fun j hj => by match j, hj with | 0, _ => rfl | 1, _ => rfl | 2, _ => rfl | 3, _ => rfl | 4, _ => rfl | j + 5, h => exact absurd h (by omega)) (Nat.le_of_ble_eq_true rfl) (Nat.le_of_ble_eq_true rfl) dX1_init_5 (fun q1 => ?_)
  refine g_dup hX (pc := 8) dX1_init_8 rfl ?_
  refine g_callIN hX (pc := 9) kX2_init (mt_Net_init E l q1) q122 [0] rfl rfl rfl (Nat.le_of_ble_eq_true rfl) (Nat.le_of_ble_eq_true rfl) (Nat.le_of_ble_eq_true rfl) (Nat.le_of_ble_eq_true rfl) (Nat.le_of_ble_eq_true rfl) dX1_init_9 (fun v w1 hp => ?_)
  obtain ⟨lm2, lb3, lr4, w15, w26, w37, h8, h9, h10, rfl, rfl⟩ := hp
  refine g_nrm (cs1 := [[(q1, ob 1 [.ref lm2, .ref lb3, .ref lr4, .int 0, .int 0])], w15, w26, w37, [(o, ob 0 [.null])]]) (st1 := [.ref q1, .ref o]) rfl rfl ?_
  refine g_putF hX (pc := 12) fcX1 4 (fs1 := [.ref q1]) (cs1 := [[(q1, ob 1 [.ref lm2, .ref lb3, .ref lr4, .int 0, .int 0])], w15, w26, w37, [(o, ob 0 [.ref q1])]]) rfl 0 (by decide) q176 rfl rfl hin rfl rfl rfl (Nat.le_of_ble_eq_true rfl) rfl rfl dX1_init_12 ?_
  refine g_pk [4, 0, 0, 0, 0] rfl ?_
  refine g_cs (cs1 := [[(o, ob 0 [.ref q1])], [(q1, ob 1 [.ref lm2, .ref lb3, .ref lr4, .int 0, .int 0])], w15, w26, w37]) rfl ?_
  refine g_vret hX (pc := 15) hR ?_ (Nat.le_of_ble_eq_true rfl) (Nat.le_of_ble_eq_true rfl) dX1_init_15
  exact ⟨_, _, _, _, _, _, _, h8, h9, h10, rfl, rfl⟩

set_option maxHeartbeats 4000000 in
theorem mt_Q_leadNow (E : EE) (l : Launch) (o : Nat) (n : Nat) (lm : Nat) (lb : Nat) (lr : Nat) (P : PN) (wm : va_W) (wM : va_W) (wb : va_W) (wr : va_W) (wq : va_W) (fz : va_W) (k : Nat) (hML : ML E fz lm (nM P) wm wM) (hB : BL E fz lb (nB P) wb) (hRq : RL E lr (nR P) wr wq) (hP : (nInv 31 P)) (hkl : (k < (nM P).length)) : Mt E l yX1_leadNow cX1_leadNow 4 (some .boolean) 13 1277 24744 311 [.ref o, .int (nI k)] [[(o, ob 0 [.ref n])], [(n, ob 1 [.ref lm, .ref lb, .ref lr, .int (nLo P), .int (nNow P)])], wm, wM, wb, wr, wq, fz] (fun (v_ : Option Value) (cs_ : List va_W) => ∃ (fz1 : va_W) (w1 : va_W), Ext E fz fz1 ∧ ML E fz1 lm (nM P) wm w1 ∧ BL E fz1 lb (nB P) wb ∧ v_ = some (.int (bI (leadB P k))) ∧ cs_ = [[(o, ob 0 [.ref n])], [(n, ob 1 [.ref lm, .ref lb, .ref lr, .int (nLo P), .int (nNow P)])], wm, w1, wb, wr, wq, fz1]) := by
  have hLP := leadP_inv (k := k) hP hkl
  obtain ⟨b0, hb0, hb1⟩ := hP
  obtain ⟨M, hM⟩ := get_ex hkl
  have h5 := hb0.1
  have hn30 := hb0.2.1
  have hrq2 := hb0.2.2.1
  refine Mt.of (by decide) (Nat.le_of_ble_eq_true rfl) (fun X hX hR hin => ?_)
  refine g_lv1 (lv1 := [(0, .ref o), (1, .int (nI k))]) rfl ?_
  refine g_aload_n hX (pc := 0) dX1_leadNow_0 0 rfl ?_
  refine g_get hX (pc := 1) fcX1 0 rfl 0 (by decide) q176 rfl (v := .ref n) rfl dX1_leadNow_1 ?_
  refine g_callV hX (pc := 4) kX2_copy (mt_Net_copy E l n lm lb lr P wm wM wb wr wq fz b0 hML hB hRq (hb0) (by omega)) q815 fcX2 (sp_mem (i := 1) rfl) [1, 1, 1, 1, 1, 1, 1] rfl rfl rfl (Nat.le_of_ble_eq_true rfl) (Nat.le_of_ble_eq_true rfl) (Nat.le_of_ble_eq_true rfl) (by omega) (by omega) dX1_leadNow_4 (fun v w1 hp => ?_)
  obtain ⟨q1, lm22, lb23, lr24, w15, w26, w37, w48, w59, w610, h11, h12, h13, h14, rfl, rfl⟩ := hp
  refine g_nrm (cs1 := [[(q1, ob 1 [.ref lm22, .ref lb23, .ref lr24, .int (nLo P), .int (nNow P)])], w15, w26, w37, w48, w59, [(n, ob 1 [.ref lm, .ref lb, .ref lr, .int (nLo P), .int (nNow P)])], wm, w610, wb, wr, wq, fz, [(o, ob 0 [.ref n])]]) (st1 := [.ref q1]) rfl rfl ?_
  refine g_astore_n hX (pc := 7) (lv1 := [(2, .ref q1), (0, .ref o), (1, .int (nI k))]) dX1_leadNow_7 (by decide) rfl ?_
  refine g_aload_n hX (pc := 8) dX1_leadNow_8 0 rfl ?_
  obtain ⟨mas15, m16, wk17, pre18, post19, hAm20, hml21, hmk22, hMk23, hw24, hMc25⟩ := ml_focus h12 hM
  refine g_fl (cs1 := [[(q1, ob 1 [.ref lm22, .ref lb23, .ref lr24, .int (nLo P), .int (nNow P)])], w15, pre18, wk17, post19, w37, w48, w59, [(n, ob 1 [.ref lm, .ref lb, .ref lr, .int (nLo P), .int (nNow P)])], wm, w610, wb, wr, wq, fz, [(o, ob 0 [.ref n])]]) (by simp only [hw24, List.flatten_cons, List.flatten_nil, List.cons_append, List.append_assoc, List.nil_append, List.append_nil]) ?_
  have hz5 : mas15.length ≤ 5 := by rw [hml21]; exact h5
  refine g_iload_n hX (pc := 9) dX1_leadNow_9 2 rfl ?_
  refine g_callV hX (pc := 10) kX2_at (mt_Net_at E l q1 lm22 lb23 lr24 (nLo P) (nNow P) mas15 w15 k m16 M fz wk17 hAm20 hMk23 (hmk22)) q780 fcX2 (sp_mem (i := 0) rfl) [0, 0, 1] rfl rfl rfl (Nat.le_of_ble_eq_true rfl) (Nat.le_of_ble_eq_true rfl) (Nat.le_of_ble_eq_true rfl) (by omega) (by omega) dX1_leadNow_10 (fun v w1 hp => ?_)
  obtain ⟨rfl, rfl⟩ := hp
  refine g_nrm (cs1 := [[(q1, ob 1 [.ref lm22, .ref lb23, .ref lr24, .int (nLo P), .int (nNow P)])], w15, wk17, pre18, post19, w37, w48, w59, [(n, ob 1 [.ref lm, .ref lb, .ref lr, .int (nLo P), .int (nNow P)])], wm, w610, wb, wr, wq, fz, [(o, ob 0 [.ref n])]]) (st1 := [.ref m16]) rfl rfl ?_
  refine g_astore_n hX (pc := 13) (lv1 := [(3, .ref m16), (2, .ref q1), (0, .ref o), (1, .int (nI k))]) dX1_leadNow_13 (by decide) rfl ?_
  refine g_aload_n hX (pc := 14) dX1_leadNow_14 0 rfl ?_
  obtain ⟨fs26, hm27⟩ := IsMach.head hMk23
  refine g_callV hX (pc := 15) kX9_isUp (mt_Machine_isUpM E l m16 M wk17 fz hMk23) q1035 fcX9 (sp_in 2 rfl hm27) [2] rfl rfl rfl (Nat.le_of_ble_eq_true rfl) (Nat.le_of_ble_eq_true rfl) (Nat.le_of_ble_eq_true rfl) (by omega) (by omega) dX1_leadNow_15 (fun v w1 hp => ?_)
  obtain ⟨rfl, rfl⟩ := hp
  refine g_nrm (cs1 := [wk17, [(q1, ob 1 [.ref lm22, .ref lb23, .ref lr24, .int (nLo P), .int (nNow P)])], w15, pre18, post19, w37, w48, w59, [(n, ob 1 [.ref lm, .ref lb, .ref lr, .int (nLo P), .int (nNow P)])], wm, w610, wb, wr, wq, fz, [(o, ob 0 [.ref n])]]) (st1 := [.int (if mR M = 0 then 0 else 1)]) rfl rfl ?_
  refine g_if_eq hX (pc := 18) (tgt := 33) dX1_leadNow_18 rfl (fun c28_ => ?_) (fun c28_ => ?_)
  · have c28 := z01.mp c28_
    have hle : (leadP P k) = P := leadP_n hM (fun z => z.1 c28)
    refine g_pk [3, 0, 2] rfl ?_
    refine g_cs (cs1 := [pre18, wk17, post19, [(q1, ob 1 [.ref lm22, .ref lb23, .ref lr24, .int (nLo P), .int (nNow P)])], w15, w37, w48, w59, [(n, ob 1 [.ref lm, .ref lb, .ref lr, .int (nLo P), .int (nNow P)])], wm, w610, wb, wr, wq, fz, [(o, ob 0 [.ref n])]]) rfl ?_
    refine g_fl (cs1 := [(pre18 ++ (wk17 ++ (post19))), [(q1, ob 1 [.ref lm22, .ref lb23, .ref lr24, .int (nLo P), .int (nNow P)])], w15, w37, w48, w59, [(n, ob 1 [.ref lm, .ref lb, .ref lr, .int (nLo P), .int (nNow P)])], wm, w610, wb, wr, wq, fz, [(o, ob 0 [.ref n])]]) (by simp only [List.flatten_cons, List.flatten_nil, List.cons_append, List.append_assoc, List.nil_append, List.append_nil]) ?_
    refine g_cs (cs1 := [w26, [(q1, ob 1 [.ref lm22, .ref lb23, .ref lr24, .int (nLo P), .int (nNow P)])], w15, w37, w48, w59, [(n, ob 1 [.ref lm, .ref lb, .ref lr, .int (nLo P), .int (nNow P)])], wm, w610, wb, wr, wq, fz, [(o, ob 0 [.ref n])]]) (by rw [hw24]) ?_
    have hML29 : ML E fz lm22 (nM (leadP P k)) w15 w26 := by rw [hle]; exact h12
    have hB30 : BL E fz lb23 (nB (leadP P k)) w37 := by rw [hle]; exact h13
    have hR31 : RL E lr24 (nR (leadP P k)) w48 w59 := by rw [hle]; exact h14
    refine g_cs (cs1 := [w26, [(q1, ob 1 [.ref lm22, .ref lb23, .ref lr24, .int (nLo (leadP P k)), .int (nNow (leadP P k))])], w15, w37, w48, w59, [(n, ob 1 [.ref lm, .ref lb, .ref lr, .int (nLo P), .int (nNow P)])], wm, w610, wb, wr, wq, fz, [(o, ob 0 [.ref n])]]) (by rw [hle]) ?_
    have hal := nAll_ok 60 (leadP P k) hLP.1
    have hcl := candN_le (nM (leadP P k))
    have hll5 : (nM (leadP P k)).length ≤ 5 := by rw [hLP.2.1]; exact h5
    refine g_aload_n hX (pc := 33) dX1_leadNow_33 1 rfl ?_
    refine g_bipush hX (pc := 34) (v := 60) dX1_leadNow_34 (by decide) ?_
    refine g_eqi (nI 60) (rfl) ?_
    refine g_callV hX (pc := 36) kX2_deliverAll (mt_Net_deliverAll E l q1 lm22 lb23 lr24 (leadP P k) w15 w26 w37 w48 w59 fz 60 hML29 hB30 hR31 (hLP.1) (by omega)) q1179 fcX2 (sp_mem (i := 1) rfl) [1, 1, 0, 0, 0, 0, 6] rfl rfl rfl (Nat.le_of_ble_eq_true rfl) (Nat.le_of_ble_eq_true rfl) (Nat.le_of_ble_eq_true rfl) (by omega) (by omega) dX1_leadNow_36 (fun v w1 hp => ?_)
    obtain ⟨fz132, w133, w234, w335, h36, h37, h38, h39, rfl, rfl⟩ := hp
    refine g_nrm (cs1 := [[(q1, ob 1 [.ref lm22, .ref lb23, .ref lr24, .int (nLo (nAll 60 (leadP P k))), .int (nNow (nAll 60 (leadP P k)))])], w15, w133, w234, w48, w335, fz132, [(n, ob 1 [.ref lm, .ref lb, .ref lr, .int (nLo P), .int (nNow P)])], wm, w610, wb, wr, wq, [(o, ob 0 [.ref n])]]) (st1 := [.int (nI (nAllN 60 (leadP P k)))]) rfl rfl ?_
    have h40 := ML.mono h36 hML
    have h41 := BL.mono h36 hB
    have h42 := ML.mono h36 h11
    have h43 := ML.mono h36 hML29
    have h44 := BL.mono h36 hB30
    refine g_pop hX (pc := 39) dX1_leadNow_39 rfl ?_
    obtain ⟨M9, hg9⟩ := get_ex (l := nM (nAll 60 (leadP P k))) (i := k) (by rw [hal.2.2.2.1, hLP.2.1]; exact hkl)
    obtain ⟨mas45, m46, hAm47, hml48, hmk49, hMI50⟩ := ML.at h37 hg9
    have hmm : mas45 = mas15 := AL.uniq hAm47 hAm20
    rw [hmm, hmk22] at hmk49
    have hm9 : m46 = m16 := (Option.some.inj hmk49).symm
    rw [hm9] at hMI50
    obtain ⟨rn51, rk52, rl53, rs54, rst55, la56, sp57, lb58, sp259, fn60, fk61, m062, arr63, m164, arr165, h166, h267, h368, h469, h570, h671, h772, hn73⟩ := hMI50.peek
    refine g_aload_n hX (pc := 40) dX1_leadNow_40 0 rfl ?_
    refine g_callV hX (pc := 41) kX9_isLeader (mt_Machine_isLeaderI E l m16 M9 fz132 w133 hMI50) q1036 fcX9 (sp_in 2 rfl h166) [2] rfl rfl rfl (Nat.le_of_ble_eq_true rfl) (Nat.le_of_ble_eq_true rfl) (Nat.le_of_ble_eq_true rfl) (by omega) (by omega) dX1_leadNow_41 (fun v w1 hp => ?_)
    obtain ⟨rfl, rfl⟩ := hp
    refine g_nrm (cs1 := [w133, [(q1, ob 1 [.ref lm22, .ref lb23, .ref lr24, .int (nLo (nAll 60 (leadP P k))), .int (nNow (nAll 60 (leadP P k)))])], w15, w234, w48, w335, fz132, [(n, ob 1 [.ref lm, .ref lb, .ref lr, .int (nLo P), .int (nNow P)])], wm, w610, wb, wr, wq, [(o, ob 0 [.ref n])]]) (st1 := [.int (if mR M9 = 3 then 1 else 0)]) rfl rfl ?_
    refine g_drop (cs1 := [[(q1, ob 1 [.ref lm22, .ref lb23, .ref lr24, .int (nLo (nAll 60 (leadP P k))), .int (nNow (nAll 60 (leadP P k)))])], w15, w234, w48, w335, fz132, [(n, ob 1 [.ref lm, .ref lb, .ref lr, .int (nLo P), .int (nNow P)])], wm, w610, wb, wr, wq, [(o, ob 0 [.ref n])]]) [0] rfl ?_
    refine g_drop (cs1 := [w15, w234, w48, w335, fz132, [(n, ob 1 [.ref lm, .ref lb, .ref lr, .int (nLo P), .int (nNow P)])], wm, w610, wb, wr, wq, [(o, ob 0 [.ref n])]]) [0] rfl ?_
    refine g_drop (cs1 := [w234, w48, w335, fz132, [(n, ob 1 [.ref lm, .ref lb, .ref lr, .int (nLo P), .int (nNow P)])], wm, w610, wb, wr, wq, [(o, ob 0 [.ref n])]]) [0] rfl ?_
    refine g_drop (cs1 := [w48, w335, fz132, [(n, ob 1 [.ref lm, .ref lb, .ref lr, .int (nLo P), .int (nNow P)])], wm, w610, wb, wr, wq, [(o, ob 0 [.ref n])]]) [0] rfl ?_
    refine g_drop (cs1 := [w335, fz132, [(n, ob 1 [.ref lm, .ref lb, .ref lr, .int (nLo P), .int (nNow P)])], wm, w610, wb, wr, wq, [(o, ob 0 [.ref n])]]) [0] rfl ?_
    refine g_drop (cs1 := [fz132, [(n, ob 1 [.ref lm, .ref lb, .ref lr, .int (nLo P), .int (nNow P)])], wm, w610, wb, wr, wq, [(o, ob 0 [.ref n])]]) [0] rfl ?_
    refine g_pk [7, 1, 1, 1, 1, 1, 1, 0] rfl ?_
    refine g_cs (cs1 := [[(o, ob 0 [.ref n])], [(n, ob 1 [.ref lm, .ref lb, .ref lr, .int (nLo P), .int (nNow P)])], wm, w610, wb, wr, wq, fz132]) rfl ?_
    refine g_zret hX (pc := 44) hR (nz10 _) ?_ (by omega) (by omega) dX1_leadNow_44
    rw [show bI (leadB P k) = if mR M9 = 3 then 1 else 0 from by unfold leadB; rw [mAt_get hg9, ← bI_if]]
    exact ⟨_, _, h36, h42, h41, rfl, rfl⟩
  · have c28 := z01n.mp c28_
    refine g_aload_n hX (pc := 21) dX1_leadNow_21 0 rfl ?_
    refine g_callV hX (pc := 22) kX9_isLeader (mt_Machine_isLeaderM E l m16 M wk17 fz hMk23) q1036 fcX9 (sp_in 0 rfl hm27) [0] rfl rfl rfl (Nat.le_of_ble_eq_true rfl) (Nat.le_of_ble_eq_true rfl) (Nat.le_of_ble_eq_true rfl) (by omega) (by omega) dX1_leadNow_22 (fun v w1 hp => ?_)
    obtain ⟨rfl, rfl⟩ := hp
    refine g_nrm (cs1 := [wk17, [(q1, ob 1 [.ref lm22, .ref lb23, .ref lr24, .int (nLo P), .int (nNow P)])], w15, pre18, post19, w37, w48, w59, [(n, ob 1 [.ref lm, .ref lb, .ref lr, .int (nLo P), .int (nNow P)])], wm, w610, wb, wr, wq, fz, [(o, ob 0 [.ref n])]]) (st1 := [.int (if mR M = 3 then 1 else 0)]) rfl rfl ?_
    refine g_if_ne hX (pc := 25) (tgt := 33) dX1_leadNow_25 rfl (fun c74_ => ?_) (fun c74_ => ?_)
    · have c74 := z10n.mp c74_
      have hle : (leadP P k) = P := leadP_n hM (fun z => z.2 c74)
      refine g_pk [3, 0, 2] rfl ?_
      refine g_cs (cs1 := [pre18, wk17, post19, [(q1, ob 1 [.ref lm22, .ref lb23, .ref lr24, .int (nLo P), .int (nNow P)])], w15, w37, w48, w59, [(n, ob 1 [.ref lm, .ref lb, .ref lr, .int (nLo P), .int (nNow P)])], wm, w610, wb, wr, wq, fz, [(o, ob 0 [.ref n])]]) rfl ?_
      refine g_fl (cs1 := [(pre18 ++ (wk17 ++ (post19))), [(q1, ob 1 [.ref lm22, .ref lb23, .ref lr24, .int (nLo P), .int (nNow P)])], w15, w37, w48, w59, [(n, ob 1 [.ref lm, .ref lb, .ref lr, .int (nLo P), .int (nNow P)])], wm, w610, wb, wr, wq, fz, [(o, ob 0 [.ref n])]]) (by simp only [List.flatten_cons, List.flatten_nil, List.cons_append, List.append_assoc, List.nil_append, List.append_nil]) ?_
      refine g_cs (cs1 := [w26, [(q1, ob 1 [.ref lm22, .ref lb23, .ref lr24, .int (nLo P), .int (nNow P)])], w15, w37, w48, w59, [(n, ob 1 [.ref lm, .ref lb, .ref lr, .int (nLo P), .int (nNow P)])], wm, w610, wb, wr, wq, fz, [(o, ob 0 [.ref n])]]) (by rw [hw24]) ?_
      have hML75 : ML E fz lm22 (nM (leadP P k)) w15 w26 := by rw [hle]; exact h12
      have hB76 : BL E fz lb23 (nB (leadP P k)) w37 := by rw [hle]; exact h13
      have hR77 : RL E lr24 (nR (leadP P k)) w48 w59 := by rw [hle]; exact h14
      refine g_cs (cs1 := [w26, [(q1, ob 1 [.ref lm22, .ref lb23, .ref lr24, .int (nLo (leadP P k)), .int (nNow (leadP P k))])], w15, w37, w48, w59, [(n, ob 1 [.ref lm, .ref lb, .ref lr, .int (nLo P), .int (nNow P)])], wm, w610, wb, wr, wq, fz, [(o, ob 0 [.ref n])]]) (by rw [hle]) ?_
      have hal := nAll_ok 60 (leadP P k) hLP.1
      have hcl := candN_le (nM (leadP P k))
      have hll5 : (nM (leadP P k)).length ≤ 5 := by rw [hLP.2.1]; exact h5
      refine g_aload_n hX (pc := 33) dX1_leadNow_33 1 rfl ?_
      refine g_bipush hX (pc := 34) (v := 60) dX1_leadNow_34 (by decide) ?_
      refine g_eqi (nI 60) (rfl) ?_
      refine g_callV hX (pc := 36) kX2_deliverAll (mt_Net_deliverAll E l q1 lm22 lb23 lr24 (leadP P k) w15 w26 w37 w48 w59 fz 60 hML75 hB76 hR77 (hLP.1) (by omega)) q1179 fcX2 (sp_mem (i := 1) rfl) [1, 1, 0, 0, 0, 0, 6] rfl rfl rfl (Nat.le_of_ble_eq_true rfl) (Nat.le_of_ble_eq_true rfl) (Nat.le_of_ble_eq_true rfl) (by omega) (by omega) dX1_leadNow_36 (fun v w1 hp => ?_)
      obtain ⟨fz178, w179, w280, w381, h82, h83, h84, h85, rfl, rfl⟩ := hp
      refine g_nrm (cs1 := [[(q1, ob 1 [.ref lm22, .ref lb23, .ref lr24, .int (nLo (nAll 60 (leadP P k))), .int (nNow (nAll 60 (leadP P k)))])], w15, w179, w280, w48, w381, fz178, [(n, ob 1 [.ref lm, .ref lb, .ref lr, .int (nLo P), .int (nNow P)])], wm, w610, wb, wr, wq, [(o, ob 0 [.ref n])]]) (st1 := [.int (nI (nAllN 60 (leadP P k)))]) rfl rfl ?_
      have h86 := ML.mono h82 hML
      have h87 := BL.mono h82 hB
      have h88 := ML.mono h82 h11
      have h89 := ML.mono h82 hML75
      have h90 := BL.mono h82 hB76
      refine g_pop hX (pc := 39) dX1_leadNow_39 rfl ?_
      obtain ⟨M9, hg9⟩ := get_ex (l := nM (nAll 60 (leadP P k))) (i := k) (by rw [hal.2.2.2.1, hLP.2.1]; exact hkl)
      obtain ⟨mas91, m92, hAm93, hml94, hmk95, hMI96⟩ := ML.at h83 hg9
      have hmm : mas91 = mas15 := AL.uniq hAm93 hAm20
      rw [hmm, hmk22] at hmk95
      have hm9 : m92 = m16 := (Option.some.inj hmk95).symm
      rw [hm9] at hMI96
      obtain ⟨rn97, rk98, rl99, rs100, rst101, la102, sp103, lb104, sp2105, fn106, fk107, m0108, arr109, m1110, arr1111, h1112, h2113, h3114, h4115, h5116, h6117, h7118, hn119⟩ := hMI96.peek
      refine g_aload_n hX (pc := 40) dX1_leadNow_40 0 rfl ?_
      refine g_callV hX (pc := 41) kX9_isLeader (mt_Machine_isLeaderI E l m16 M9 fz178 w179 hMI96) q1036 fcX9 (sp_in 2 rfl h1112) [2] rfl rfl rfl (Nat.le_of_ble_eq_true rfl) (Nat.le_of_ble_eq_true rfl) (Nat.le_of_ble_eq_true rfl) (by omega) (by omega) dX1_leadNow_41 (fun v w1 hp => ?_)
      obtain ⟨rfl, rfl⟩ := hp
      refine g_nrm (cs1 := [w179, [(q1, ob 1 [.ref lm22, .ref lb23, .ref lr24, .int (nLo (nAll 60 (leadP P k))), .int (nNow (nAll 60 (leadP P k)))])], w15, w280, w48, w381, fz178, [(n, ob 1 [.ref lm, .ref lb, .ref lr, .int (nLo P), .int (nNow P)])], wm, w610, wb, wr, wq, [(o, ob 0 [.ref n])]]) (st1 := [.int (if mR M9 = 3 then 1 else 0)]) rfl rfl ?_
      refine g_drop (cs1 := [[(q1, ob 1 [.ref lm22, .ref lb23, .ref lr24, .int (nLo (nAll 60 (leadP P k))), .int (nNow (nAll 60 (leadP P k)))])], w15, w280, w48, w381, fz178, [(n, ob 1 [.ref lm, .ref lb, .ref lr, .int (nLo P), .int (nNow P)])], wm, w610, wb, wr, wq, [(o, ob 0 [.ref n])]]) [0] rfl ?_
      refine g_drop (cs1 := [w15, w280, w48, w381, fz178, [(n, ob 1 [.ref lm, .ref lb, .ref lr, .int (nLo P), .int (nNow P)])], wm, w610, wb, wr, wq, [(o, ob 0 [.ref n])]]) [0] rfl ?_
      refine g_drop (cs1 := [w280, w48, w381, fz178, [(n, ob 1 [.ref lm, .ref lb, .ref lr, .int (nLo P), .int (nNow P)])], wm, w610, wb, wr, wq, [(o, ob 0 [.ref n])]]) [0] rfl ?_
      refine g_drop (cs1 := [w48, w381, fz178, [(n, ob 1 [.ref lm, .ref lb, .ref lr, .int (nLo P), .int (nNow P)])], wm, w610, wb, wr, wq, [(o, ob 0 [.ref n])]]) [0] rfl ?_
      refine g_drop (cs1 := [w381, fz178, [(n, ob 1 [.ref lm, .ref lb, .ref lr, .int (nLo P), .int (nNow P)])], wm, w610, wb, wr, wq, [(o, ob 0 [.ref n])]]) [0] rfl ?_
      refine g_drop (cs1 := [fz178, [(n, ob 1 [.ref lm, .ref lb, .ref lr, .int (nLo P), .int (nNow P)])], wm, w610, wb, wr, wq, [(o, ob 0 [.ref n])]]) [0] rfl ?_
      refine g_pk [7, 1, 1, 1, 1, 1, 1, 0] rfl ?_
      refine g_cs (cs1 := [[(o, ob 0 [.ref n])], [(n, ob 1 [.ref lm, .ref lb, .ref lr, .int (nLo P), .int (nNow P)])], wm, w610, wb, wr, wq, fz178]) rfl ?_
      refine g_zret hX (pc := 44) hR (nz10 _) ?_ (by omega) (by omega) dX1_leadNow_44
      rw [show bI (leadB P k) = if mR M9 = 3 then 1 else 0 from by unfold leadB; rw [mAt_get hg9, ← bI_if]]
      exact ⟨_, _, h82, h88, h87, rfl, rfl⟩
    · have c74 := z10.mp c74_
      have hB120 : BL E fz lb23 (Prod.fst (pB (nB P) (nLo P))) w37 := h13
      refine g_cs (cs1 := [wk17, [(q1, ob 1 [.ref lm22, .ref lb23, .ref lr24, .int (Prod.snd (pB (nB P) (nLo P))), .int (nNow P)])], w15, pre18, post19, w37, w48, w59, [(n, ob 1 [.ref lm, .ref lb, .ref lr, .int (nLo P), .int (nNow P)])], wm, w610, wb, wr, wq, fz, [(o, ob 0 [.ref n])]]) (rfl) ?_
      obtain ⟨m1, m2, m3⟩ := hb0.2.2.2.1 _ _ hM
      rw [← hml21] at m1
      refine g_aload_n hX (pc := 28) dX1_leadNow_28 1 rfl ?_
      refine g_aload_n hX (pc := 29) dX1_leadNow_29 0 rfl ?_
      refine g_callV hX (pc := 30) kX2_stand (mt_Net_stand E l q1 lm22 lb23 lr24 (nNow P) mas15 w15 m16 M wk17 fz (pB (nB P) (nLo P)) w37 (nR P) w48 w59 b0 hAm20 hMk23 hB120 h14 (m1) (hrq2) (by omega) (hn30)) q1037 fcX2 (sp_mem (i := 1) rfl) [1, 1, 0, 2, 2, 2, 8] rfl rfl rfl (Nat.le_of_ble_eq_true rfl) (Nat.le_of_ble_eq_true rfl) (Nat.le_of_ble_eq_true rfl) (by omega) (by omega) dX1_leadNow_30 (fun v w1 hp => ?_)
      obtain ⟨fz1121, w1122, w2123, w3124, h125, h126, h127, h128, rfl, rfl⟩ := hp
      refine g_nrm (cs1 := [[(q1, ob 1 [.ref lm22, .ref lb23, .ref lr24, .int (Prod.snd (Prod.snd (standIf (List.length mas15) M (pB (nB P) (nLo P))))), .int (nNow P)])], w15, w1122, w2123, w48, w3124, fz1121, pre18, post19, [(n, ob 1 [.ref lm, .ref lb, .ref lr, .int (nLo P), .int (nNow P)])], wm, w610, wb, wr, wq, [(o, ob 0 [.ref n])]]) (st1 := []) rfl rfl ?_
      have h129 := ML.mono h125 hML
      have h130 := BL.mono h125 hB
      have h131 := ML.mono h125 h11
      have h132 := IsMach.mono h125 hMk23
      have h133 := BL.mono h125 hB120
      refine g_pk [7, 2, 6] rfl ?_
      refine g_cs (cs1 := [pre18, w1122, post19, [(q1, ob 1 [.ref lm22, .ref lb23, .ref lr24, .int (Prod.snd (Prod.snd (standIf (List.length mas15) M (pB (nB P) (nLo P))))), .int (nNow P)])], w15, w2123, w48, w3124, fz1121, [(n, ob 1 [.ref lm, .ref lb, .ref lr, .int (nLo P), .int (nNow P)])], wm, w610, wb, wr, wq, [(o, ob 0 [.ref n])]]) rfl ?_
      refine g_fl (cs1 := [(pre18 ++ (w1122 ++ (post19))), [(q1, ob 1 [.ref lm22, .ref lb23, .ref lr24, .int (Prod.snd (Prod.snd (standIf (List.length mas15) M (pB (nB P) (nLo P))))), .int (nNow P)])], w15, w2123, w48, w3124, fz1121, [(n, ob 1 [.ref lm, .ref lb, .ref lr, .int (nLo P), .int (nNow P)])], wm, w610, wb, wr, wq, [(o, ob 0 [.ref n])]]) (by simp only [List.flatten_cons, List.flatten_nil, List.cons_append, List.append_assoc, List.nil_append, List.append_nil]) ?_
      have hle : (leadP P k) = nPut P k (standIf (List.length mas15) M (pB (nB P) (nLo P))) := by rw [leadP_y hM c28 c74, nStand_e hM, hml21]
      have hML135 : ML E fz1121 lm22 (nM (leadP P k)) w15 (pre18 ++ (w1122 ++ (post19))) := by rw [hle]; have hh := hMc25 _ _ _ h125 h126; rw [hml21] at hh ⊢; exact hh
      generalize (pre18 ++ (w1122 ++ (post19))) = wM134 at hML135 ⊢
      have hB136 : BL E fz1121 lb23 (nB (leadP P k)) w2123 := by rw [hle]; exact h127
      have hR137 : RL E lr24 (nR (leadP P k)) w48 w3124 := by rw [hle]; have hh := h128; rw [hml21] at hh ⊢; exact hh
      refine g_cs (cs1 := [wM134, [(q1, ob 1 [.ref lm22, .ref lb23, .ref lr24, .int (nLo (leadP P k)), .int (nNow (leadP P k))])], w15, w2123, w48, w3124, fz1121, [(n, ob 1 [.ref lm, .ref lb, .ref lr, .int (nLo P), .int (nNow P)])], wm, w610, wb, wr, wq, [(o, ob 0 [.ref n])]]) (by rw [hle]; rfl) ?_
      have hal := nAll_ok 60 (leadP P k) hLP.1
      have hcl := candN_le (nM (leadP P k))
      have hll5 : (nM (leadP P k)).length ≤ 5 := by rw [hLP.2.1]; exact h5
      refine g_aload_n hX (pc := 33) dX1_leadNow_33 1 rfl ?_
      refine g_bipush hX (pc := 34) (v := 60) dX1_leadNow_34 (by decide) ?_
      refine g_eqi (nI 60) (rfl) ?_
      refine g_callV hX (pc := 36) kX2_deliverAll (mt_Net_deliverAll E l q1 lm22 lb23 lr24 (leadP P k) w15 wM134 w2123 w48 w3124 fz1121 60 hML135 hB136 hR137 (hLP.1) (by omega)) q1179 fcX2 (sp_mem (i := 1) rfl) [1, 1, 0, 0, 0, 0, 0] rfl rfl rfl (Nat.le_of_ble_eq_true rfl) (Nat.le_of_ble_eq_true rfl) (Nat.le_of_ble_eq_true rfl) (by omega) (by omega) dX1_leadNow_36 (fun v w1 hp => ?_)
      obtain ⟨fz1138, w1139, w2140, w3141, h142, h143, h144, h145, rfl, rfl⟩ := hp
      refine g_nrm (cs1 := [[(q1, ob 1 [.ref lm22, .ref lb23, .ref lr24, .int (nLo (nAll 60 (leadP P k))), .int (nNow (nAll 60 (leadP P k)))])], w15, w1139, w2140, w48, w3141, fz1138, [(n, ob 1 [.ref lm, .ref lb, .ref lr, .int (nLo P), .int (nNow P)])], wm, w610, wb, wr, wq, [(o, ob 0 [.ref n])]]) (st1 := [.int (nI (nAllN 60 (leadP P k)))]) rfl rfl ?_
      have h146 := ML.mono h142 h129
      have h147 := BL.mono h142 h130
      have h148 := ML.mono h142 h131
      have h149 := BL.mono h142 h133
      have h150 := ML.mono h142 hML135
      have h151 := BL.mono h142 hB136
      refine g_pop hX (pc := 39) dX1_leadNow_39 rfl ?_
      obtain ⟨M9, hg9⟩ := get_ex (l := nM (nAll 60 (leadP P k))) (i := k) (by rw [hal.2.2.2.1, hLP.2.1]; exact hkl)
      obtain ⟨mas152, m153, hAm154, hml155, hmk156, hMI157⟩ := ML.at h143 hg9
      have hmm : mas152 = mas15 := AL.uniq hAm154 hAm20
      rw [hmm, hmk22] at hmk156
      have hm9 : m153 = m16 := (Option.some.inj hmk156).symm
      rw [hm9] at hMI157
      obtain ⟨rn158, rk159, rl160, rs161, rst162, la163, sp164, lb165, sp2166, fn167, fk168, m0169, arr170, m1171, arr1172, h1173, h2174, h3175, h4176, h5177, h6178, h7179, hn180⟩ := hMI157.peek
      refine g_aload_n hX (pc := 40) dX1_leadNow_40 0 rfl ?_
      refine g_callV hX (pc := 41) kX9_isLeader (mt_Machine_isLeaderI E l m16 M9 fz1138 w1139 hMI157) q1036 fcX9 (sp_in 2 rfl h1173) [2] rfl rfl rfl (Nat.le_of_ble_eq_true rfl) (Nat.le_of_ble_eq_true rfl) (Nat.le_of_ble_eq_true rfl) (by omega) (by omega) dX1_leadNow_41 (fun v w1 hp => ?_)
      obtain ⟨rfl, rfl⟩ := hp
      refine g_nrm (cs1 := [w1139, [(q1, ob 1 [.ref lm22, .ref lb23, .ref lr24, .int (nLo (nAll 60 (leadP P k))), .int (nNow (nAll 60 (leadP P k)))])], w15, w2140, w48, w3141, fz1138, [(n, ob 1 [.ref lm, .ref lb, .ref lr, .int (nLo P), .int (nNow P)])], wm, w610, wb, wr, wq, [(o, ob 0 [.ref n])]]) (st1 := [.int (if mR M9 = 3 then 1 else 0)]) rfl rfl ?_
      refine g_drop (cs1 := [[(q1, ob 1 [.ref lm22, .ref lb23, .ref lr24, .int (nLo (nAll 60 (leadP P k))), .int (nNow (nAll 60 (leadP P k)))])], w15, w2140, w48, w3141, fz1138, [(n, ob 1 [.ref lm, .ref lb, .ref lr, .int (nLo P), .int (nNow P)])], wm, w610, wb, wr, wq, [(o, ob 0 [.ref n])]]) [0] rfl ?_
      refine g_drop (cs1 := [w15, w2140, w48, w3141, fz1138, [(n, ob 1 [.ref lm, .ref lb, .ref lr, .int (nLo P), .int (nNow P)])], wm, w610, wb, wr, wq, [(o, ob 0 [.ref n])]]) [0] rfl ?_
      refine g_drop (cs1 := [w2140, w48, w3141, fz1138, [(n, ob 1 [.ref lm, .ref lb, .ref lr, .int (nLo P), .int (nNow P)])], wm, w610, wb, wr, wq, [(o, ob 0 [.ref n])]]) [0] rfl ?_
      refine g_drop (cs1 := [w48, w3141, fz1138, [(n, ob 1 [.ref lm, .ref lb, .ref lr, .int (nLo P), .int (nNow P)])], wm, w610, wb, wr, wq, [(o, ob 0 [.ref n])]]) [0] rfl ?_
      refine g_drop (cs1 := [w3141, fz1138, [(n, ob 1 [.ref lm, .ref lb, .ref lr, .int (nLo P), .int (nNow P)])], wm, w610, wb, wr, wq, [(o, ob 0 [.ref n])]]) [0] rfl ?_
      refine g_drop (cs1 := [fz1138, [(n, ob 1 [.ref lm, .ref lb, .ref lr, .int (nLo P), .int (nNow P)])], wm, w610, wb, wr, wq, [(o, ob 0 [.ref n])]]) [0] rfl ?_
      refine g_pk [7, 1, 1, 1, 1, 1, 1, 0] rfl ?_
      refine g_cs (cs1 := [[(o, ob 0 [.ref n])], [(n, ob 1 [.ref lm, .ref lb, .ref lr, .int (nLo P), .int (nNow P)])], wm, w610, wb, wr, wq, fz1138]) rfl ?_
      refine g_zret hX (pc := 44) hR (nz10 _) ?_ (by omega) (by omega) dX1_leadNow_44
      rw [show bI (leadB P k) = if mR M9 = 3 then 1 else 0 from by unfold leadB; rw [mAt_get hg9, ← bI_if]]
      exact ⟨_, _, (Ext.tr h125 h142), h148, h147, rfl, rfl⟩

set_option maxHeartbeats 4000000 in
theorem mt_Q_answerNow (E : EE) (l : Launch) (o : Nat) (n : Nat) (lm : Nat) (lb : Nat) (lr : Nat) (P : PN) (wm : va_W) (wM : va_W) (wb : va_W) (wr : va_W) (wq : va_W) (fz : va_W) (j : Nat) (hML : ML E fz lm (nM P) wm wM) (hB : BL E fz lb (nB P) wb) (hRq : RL E lr (nR P) wr wq) (hP : (nInv 31 P)) (hjl : (j < (nR P).length)) : Mt E l yX1_answerNow cX1_answerNow 3 (some .int) 13 1277 24744 311 [.ref o, .int (nI j)] [[(o, ob 0 [.ref n])], [(n, ob 1 [.ref lm, .ref lb, .ref lr, .int (nLo P), .int (nNow P)])], wm, wM, wb, wr, wq, fz] (fun (v_ : Option Value) (cs_ : List va_W) => ∃ (fz1 : va_W) (w1 : va_W), Ext E fz fz1 ∧ ML E fz1 lm (nM P) wm w1 ∧ BL E fz1 lb (nB P) wb ∧ v_ = some (.int (ansN P j)) ∧ cs_ = [[(o, ob 0 [.ref n])], [(n, ob 1 [.ref lm, .ref lb, .ref lr, .int (nLo P), .int (nNow P)])], wm, w1, wb, wr, wq, fz1]) := by
  have hP32 : nInv 32 P := hP.elim (fun b h => ⟨b, h.1, by omega⟩)
  have hal := nAll_ok 60 P hP32
  have hcl := candN_le (nM P)
  obtain ⟨b0, hb0, hb1⟩ := hP
  have h5 := hb0.1
  refine Mt.of (by decide) (Nat.le_of_ble_eq_true rfl) (fun X hX hR hin => ?_)
  refine g_lv1 (lv1 := [(0, .ref o), (1, .int (nI j))]) rfl ?_
  refine g_aload_n hX (pc := 0) dX1_answerNow_0 0 rfl ?_
  refine g_get hX (pc := 1) fcX1 0 rfl 0 (by decide) q176 rfl (v := .ref n) rfl dX1_answerNow_1 ?_
  refine g_callV hX (pc := 4) kX2_copy (mt_Net_copy E l n lm lb lr P wm wM wb wr wq fz b0 hML hB hRq (hb0) (by omega)) q815 fcX2 (sp_mem (i := 1) rfl) [1, 1, 1, 1, 1, 1, 1] rfl rfl rfl (Nat.le_of_ble_eq_true rfl) (Nat.le_of_ble_eq_true rfl) (Nat.le_of_ble_eq_true rfl) (by omega) (by omega) dX1_answerNow_4 (fun v w1 hp => ?_)
  obtain ⟨q1, lm22, lb23, lr24, w15, w26, w37, w48, w59, w610, h11, h12, h13, h14, rfl, rfl⟩ := hp
  refine g_nrm (cs1 := [[(q1, ob 1 [.ref lm22, .ref lb23, .ref lr24, .int (nLo P), .int (nNow P)])], w15, w26, w37, w48, w59, [(n, ob 1 [.ref lm, .ref lb, .ref lr, .int (nLo P), .int (nNow P)])], wm, w610, wb, wr, wq, fz, [(o, ob 0 [.ref n])]]) (st1 := [.ref q1]) rfl rfl ?_
  refine g_astore_n hX (pc := 7) (lv1 := [(2, .ref q1), (0, .ref o), (1, .int (nI j))]) dX1_answerNow_7 (by decide) rfl ?_
  refine g_aload_n hX (pc := 8) dX1_answerNow_8 0 rfl ?_
  refine g_bipush hX (pc := 9) (v := 60) dX1_answerNow_9 (by decide) ?_
  refine g_eqi (nI 60) (rfl) ?_
  refine g_callV hX (pc := 11) kX2_deliverAll (mt_Net_deliverAll E l q1 lm22 lb23 lr24 P w15 w26 w37 w48 w59 fz 60 h12 h13 h14 (hP32) (by omega)) q1179 fcX2 (sp_mem (i := 0) rfl) [0, 0, 0, 0, 0, 0, 6] rfl rfl rfl (Nat.le_of_ble_eq_true rfl) (Nat.le_of_ble_eq_true rfl) (Nat.le_of_ble_eq_true rfl) (by omega) (by omega) dX1_answerNow_11 (fun v w1 hp => ?_)
  obtain ⟨fz115, w116, w217, w318, h19, h20, h21, h22, rfl, rfl⟩ := hp
  refine g_nrm (cs1 := [[(q1, ob 1 [.ref lm22, .ref lb23, .ref lr24, .int (nLo (nAll 60 P)), .int (nNow (nAll 60 P))])], w15, w116, w217, w48, w318, fz115, [(n, ob 1 [.ref lm, .ref lb, .ref lr, .int (nLo P), .int (nNow P)])], wm, w610, wb, wr, wq, [(o, ob 0 [.ref n])]]) (st1 := [.int (nI (nAllN 60 P))]) rfl rfl ?_
  have h23 := ML.mono h19 hML
  have h24 := BL.mono h19 hB
  have h25 := ML.mono h19 h11
  have h26 := ML.mono h19 h12
  have h27 := BL.mono h19 h13
  refine g_pop hX (pc := 14) dX1_answerNow_14 rfl ?_
  obtain ⟨r9, hg9⟩ := get_ex (l := nR (nAll 60 P)) (i := j) (by rw [hal.2.2.2.2]; exact hjl)
  obtain ⟨ras28, a29, hAr30, hrl31, hra32, hrm33⟩ := RL.at h22 hg9
  refine g_aload_n hX (pc := 15) dX1_answerNow_15 0 rfl ?_
  refine g_getN hX (pc := 16) fcX2 0 rfl 2 (by decide) q160 rfl (v := .ref lr24) rfl dX1_answerNow_16 ?_
  refine g_iload_n hX (pc := 19) dX1_answerNow_19 2 rfl ?_
  obtain ⟨fs34, hm35⟩ := AL.head hAr30
  refine g_callF hX (pc := 20) kfJ2_get (mt_AL_get E l lr24 ras28 w48 j a29 hAr30 (hra32)) q740 fcJ2 (sp_in 4 rfl hm35) [4] rfl rfl rfl (Nat.le_of_ble_eq_true rfl) (Nat.le_of_ble_eq_true rfl) (Nat.le_of_ble_eq_true rfl) (by omega) (by omega) dX1_answerNow_20 (fun v w1 hp => ?_)
  obtain ⟨rfl, rfl⟩ := hp
  refine g_nrm (cs1 := [w48, [(q1, ob 1 [.ref lm22, .ref lb23, .ref lr24, .int (nLo (nAll 60 P)), .int (nNow (nAll 60 P))])], w15, w116, w217, w318, fz115, [(n, ob 1 [.ref lm, .ref lb, .ref lr, .int (nLo P), .int (nNow P)])], wm, w610, wb, wr, wq, [(o, ob 0 [.ref n])]]) (st1 := [.ref a29]) rfl rfl ?_
  refine g_cast hX (pc := 25) fcX12 (sp_in 5 rfl hrm33) q741 dX1_answerNow_25 ?_
  refine g_getNm hX (pc := 28) fcX12 (sp_in 5 rfl hrm33) 5 (by decide) q1007 rfl (v := .int (rRes r9)) rfl dX1_answerNow_28 ?_
  refine g_drop (cs1 := [[(q1, ob 1 [.ref lm22, .ref lb23, .ref lr24, .int (nLo (nAll 60 P)), .int (nNow (nAll 60 P))])], w15, w116, w217, w318, fz115, [(n, ob 1 [.ref lm, .ref lb, .ref lr, .int (nLo P), .int (nNow P)])], wm, w610, wb, wr, wq, [(o, ob 0 [.ref n])]]) [0] rfl ?_
  refine g_drop (cs1 := [w15, w116, w217, w318, fz115, [(n, ob 1 [.ref lm, .ref lb, .ref lr, .int (nLo P), .int (nNow P)])], wm, w610, wb, wr, wq, [(o, ob 0 [.ref n])]]) [0] rfl ?_
  refine g_drop (cs1 := [w116, w217, w318, fz115, [(n, ob 1 [.ref lm, .ref lb, .ref lr, .int (nLo P), .int (nNow P)])], wm, w610, wb, wr, wq, [(o, ob 0 [.ref n])]]) [0] rfl ?_
  refine g_drop (cs1 := [w217, w318, fz115, [(n, ob 1 [.ref lm, .ref lb, .ref lr, .int (nLo P), .int (nNow P)])], wm, w610, wb, wr, wq, [(o, ob 0 [.ref n])]]) [0] rfl ?_
  refine g_drop (cs1 := [w318, fz115, [(n, ob 1 [.ref lm, .ref lb, .ref lr, .int (nLo P), .int (nNow P)])], wm, w610, wb, wr, wq, [(o, ob 0 [.ref n])]]) [0] rfl ?_
  refine g_drop (cs1 := [fz115, [(n, ob 1 [.ref lm, .ref lb, .ref lr, .int (nLo P), .int (nNow P)])], wm, w610, wb, wr, wq, [(o, ob 0 [.ref n])]]) [0] rfl ?_
  refine g_pk [7, 1, 1, 1, 1, 1, 1, 0] rfl ?_
  refine g_cs (cs1 := [[(o, ob 0 [.ref n])], [(n, ob 1 [.ref lm, .ref lb, .ref lr, .int (nLo P), .int (nNow P)])], wm, w610, wb, wr, wq, fz115]) rfl ?_
  refine g_iret hX (pc := 31) hR ?_ (by omega) (by omega) dX1_answerNow_31
  rw [show ansN P j = rRes r9 from by unfold ansN; rw [rqG_e hg9]]
  exact ⟨_, _, h19, h25, h24, rfl, rfl⟩

set_option maxHeartbeats 4000000 in
theorem mt_Q_wouldLead (E : EE) (l : Launch) (o : Nat) (n : Nat) (lm : Nat) (lb : Nat) (lr : Nat) (P : PN) (wm : va_W) (wM : va_W) (wb : va_W) (wr : va_W) (wq : va_W) (fz : va_W) (k : Nat) (hML : ML E fz lm (nM P) wm wM) (hB : BL E fz lb (nB P) wb) (hRq : RL E lr (nR P) wr wq) (hP : (nInv 31 P)) (hkl : (k < (nM P).length)) : Mt E l yX1_wouldLead cX1_wouldLead 2 (some .boolean) 14 1277 24744 334 [.ref o, .int (nI k)] [[(o, ob 0 [.ref n])], [(n, ob 1 [.ref lm, .ref lb, .ref lr, .int (nLo P), .int (nNow P)])], wm, wM, wb, wr, wq, fz] (fun (v_ : Option Value) (cs_ : List va_W) => ∃ (fz1 : va_W) (w1 : va_W), Ext E fz fz1 ∧ ML E fz1 lm (nM P) wm w1 ∧ BL E fz1 lb (nB P) wb ∧ v_ = some (.int (bI (leadB P k))) ∧ cs_ = [[(o, ob 0 [.ref n])], [(n, ob 1 [.ref lm, .ref lb, .ref lr, .int (nLo P), .int (nNow P)])], wm, w1, wb, wr, wq, fz1]) := by
  have h5 : (nM P).length ≤ 5 := hP.elim (fun b h => h.1.1)
  refine Mt.of (by decide) (Nat.le_of_ble_eq_true rfl) (fun X hX hR hin => ?_)
  refine g_lv1 (lv1 := [(0, .ref o), (1, .int (nI k))]) rfl ?_
  refine g_aload_n hX (pc := 0) dX1_wouldLead_0 0 rfl ?_
  refine g_iload_n hX (pc := 1) dX1_wouldLead_1 1 rfl ?_
  obtain ⟨M7, hgM7⟩ := get_ex (l := (nM P)) (i := k) (hkl)
  obtain ⟨mas1, m2, hAm3, hml4, hmk5, hMI6⟩ := ML.at hML hgM7
  obtain ⟨rn8, rk9, rl10, rs11, rst12, la13, sp14, lb15, sp216, fn17, fk18, m019, arr20, m121, arr122, h123, h224, h325, h426, h527, h628, h729, hn30⟩ := hMI6.peek
  refine g_callV hX (pc := 2) kX1_machineAt (mt_Q_machineAtI E l o n lm lb lr (nLo P) (nNow P) mas1 wm k m2 M7 fz wM hAm3 hMI6 (hmk5) (by omega)) q1360 fcX1 (sp_mem (i := 0) rfl) [0, 0, 0, 0] rfl rfl rfl (Nat.le_of_ble_eq_true rfl) (Nat.le_of_ble_eq_true rfl) (Nat.le_of_ble_eq_true rfl) (by omega) (by omega) dX1_wouldLead_2 (fun v w1 hp => ?_)
  obtain ⟨rfl, rfl⟩ := hp
  refine g_nrm (cs1 := [[(o, ob 0 [.ref n])], [(n, ob 1 [.ref lm, .ref lb, .ref lr, .int (nLo P), .int (nNow P)])], wm, wM, wb, wr, wq, fz]) (st1 := [.ref m2]) rfl rfl ?_
  refine g_pop hX (pc := 5) dX1_wouldLead_5 rfl ?_
  refine g_aload_n hX (pc := 6) dX1_wouldLead_6 0 rfl ?_
  refine g_iload_n hX (pc := 7) dX1_wouldLead_7 1 rfl ?_
  refine g_callV hX (pc := 8) kX1_leadNow (mt_Q_leadNow E l o n lm lb lr P wm wM wb wr wq fz k hML hB hRq (hP) (hkl)) q811 fcX1 (sp_mem (i := 0) rfl) [0, 0, 0, 0, 0, 0, 0, 0] rfl rfl rfl (Nat.le_of_ble_eq_true rfl) (Nat.le_of_ble_eq_true rfl) (Nat.le_of_ble_eq_true rfl) (by omega) (by omega) dX1_wouldLead_8 (fun v w1 hp => ?_)
  obtain ⟨fz131, w132, h33, h34, h35, rfl, rfl⟩ := hp
  refine g_nrm (cs1 := [[(o, ob 0 [.ref n])], [(n, ob 1 [.ref lm, .ref lb, .ref lr, .int (nLo P), .int (nNow P)])], wm, w132, wb, wr, wq, fz131]) (st1 := [.int (bI (leadB P k))]) rfl rfl ?_
  have h36 := ML.mono h33 hML
  have h37 := BL.mono h33 hB
  have h38 := MachIn.mono h33 hMI6
  refine g_zret hX (pc := 11) hR (bI_n _) ?_ (by omega) (by omega) dX1_wouldLead_11
  exact ⟨_, _, h33, h34, h35, rfl, rfl⟩

set_option maxHeartbeats 4000000 in
theorem mt_Q_wouldAnswer (E : EE) (l : Launch) (o : Nat) (n : Nat) (lm : Nat) (lb : Nat) (lr : Nat) (P : PN) (wm : va_W) (wM : va_W) (wb : va_W) (wr : va_W) (wq : va_W) (fz : va_W) (j : Nat) (r : PR) (hML : ML E fz lm (nM P) wm wM) (hB : BL E fz lb (nB P) wb) (hRq : RL E lr (nR P) wr wq) (hP : (nInv 31 P)) (hj : ((nR P)[j]? = some r)) : Mt E l yX1_wouldAnswer cX1_wouldAnswer 2 (some .int) 14 1277 24744 333 [.ref o, .int (nI j)] [[(o, ob 0 [.ref n])], [(n, ob 1 [.ref lm, .ref lb, .ref lr, .int (nLo P), .int (nNow P)])], wm, wM, wb, wr, wq, fz] (fun (v_ : Option Value) (cs_ : List va_W) => ∃ (fz1 : va_W) (w1 : va_W), Ext E fz fz1 ∧ ML E fz1 lm (nM P) wm w1 ∧ BL E fz1 lb (nB P) wb ∧ v_ = some (.int (ansN P j)) ∧ cs_ = [[(o, ob 0 [.ref n])], [(n, ob 1 [.ref lm, .ref lb, .ref lr, .int (nLo P), .int (nNow P)])], wm, w1, wb, wr, wq, fz1]) := by
  have h40 : (nR P).length ≤ 40 := hP.elim (fun b h => h.1.2.2.1.1)
  obtain ⟨ras, a, hAr, hrl, hra, hrm⟩ := RL.at hRq hj
  refine Mt.of (by decide) (Nat.le_of_ble_eq_true rfl) (fun X hX hR hin => ?_)
  refine g_lv1 (lv1 := [(0, .ref o), (1, .int (nI j))]) rfl ?_
  refine g_aload_n hX (pc := 0) dX1_wouldAnswer_0 0 rfl ?_
  refine g_iload_n hX (pc := 1) dX1_wouldAnswer_1 1 rfl ?_
  refine g_callV hX (pc := 2) kX1_requestAt (mt_Q_requestAt E l o n lm lb lr (nLo P) (nNow P) ras wr wq j a r hAr (hra) (by omega) (hrm)) q1437 fcX1 (sp_mem (i := 0) rfl) [0, 0, 3, 3] rfl rfl rfl (Nat.le_of_ble_eq_true rfl) (Nat.le_of_ble_eq_true rfl) (Nat.le_of_ble_eq_true rfl) (by omega) (by omega) dX1_wouldAnswer_2 (fun v w1 hp => ?_)
  obtain ⟨rfl, rfl⟩ := hp
  refine g_nrm (cs1 := [[(o, ob 0 [.ref n])], [(n, ob 1 [.ref lm, .ref lb, .ref lr, .int (nLo P), .int (nNow P)])], wr, wq, wm, wM, wb, fz]) (st1 := [.ref a]) rfl rfl ?_
  refine g_pop hX (pc := 5) dX1_wouldAnswer_5 rfl ?_
  refine g_aload_n hX (pc := 6) dX1_wouldAnswer_6 0 rfl ?_
  refine g_iload_n hX (pc := 7) dX1_wouldAnswer_7 1 rfl ?_
  refine g_callV hX (pc := 8) kX1_answerNow (mt_Q_answerNow E l o n lm lb lr P wm wM wb wr wq fz j hML hB hRq (hP) ((List.getElem?_eq_some_iff.mp hj).1)) q1256 fcX1 (sp_mem (i := 0) rfl) [0, 0, 2, 2, 2, 0, 0, 0] rfl rfl rfl (Nat.le_of_ble_eq_true rfl) (Nat.le_of_ble_eq_true rfl) (Nat.le_of_ble_eq_true rfl) (by omega) (by omega) dX1_wouldAnswer_8 (fun v w1 hp => ?_)
  obtain ⟨fz11, w12, h3, h4, h5, rfl, rfl⟩ := hp
  refine g_nrm (cs1 := [[(o, ob 0 [.ref n])], [(n, ob 1 [.ref lm, .ref lb, .ref lr, .int (nLo P), .int (nNow P)])], wm, w12, wb, wr, wq, fz11]) (st1 := [.int (ansN P j)]) rfl rfl ?_
  have h6 := ML.mono h3 hML
  have h7 := BL.mono h3 hB
  refine g_iret hX (pc := 11) hR ?_ (by omega) (by omega) dX1_wouldAnswer_11
  exact ⟨_, _, h3, h4, h5, rfl, rfl⟩
