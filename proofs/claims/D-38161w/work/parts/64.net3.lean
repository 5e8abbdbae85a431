set_option maxHeartbeats 4000000 in
theorem mt_Net_deliver (E : EE) (l : Launch) (n : Nat) (lm : Nat) (lb : Nat) (lr : Nat) (P : PN) (wm : va_W) (wM : va_W) (wb : va_W) (wr : va_W) (wq : va_W) (fz : va_W) (i : Nat) (g : PMg) (b : Nat) (hML : ML E fz lm (nM P) wm wM) (hB : BL E fz lb (nB P) wb) (hRq : RL E lr (nR P) wr wq) (hP : (nOK b P)) (hb : (b ≤ 32)) (hi : ((nB P)[i]? = some g)) : Mt E l yX2_deliver cX2_deliver 4 (some .int) 11 (16 + 22 * nLeads P g) (321 + 542 * nLeads P g) 266 [.ref n, .int (nI i)] [[(n, ob 1 [.ref lm, .ref lb, .ref lr, .int (nLo P), .int (nNow P)])], wm, wM, wb, wr, wq, fz] (fun (v_ : Option Value) (cs_ : List va_W) => ∃ (fz1 : va_W) (w1 : va_W) (w2 : va_W) (w3 : va_W), Ext E fz fz1 ∧ ML E fz1 lm (nM (nDeliver P i g)) wm w1 ∧ BL E fz1 lb (nB (nDeliver P i g)) w2 ∧ RL E lr (nR (nDeliver P i g)) wr w3 ∧ v_ = some (.int (nI (gT g))) ∧ cs_ = [[(n, ob 1 [.ref lm, .ref lb, .ref lr, .int (nLo (nDeliver P i g)), .int (nNow (nDeliver P i g))])], wm, w1, w2, wr, w3, fz1]) := by
  obtain ⟨p1, p2, p3, p4, p5⟩ := hP
  have hgm := p5 g (List.mem_of_getElem? hi)
  obtain ⟨⟨q1, q2, q3⟩, ⟨q4, q5⟩, q6, q7⟩ := p5 g (List.mem_of_getElem? hi)
  obtain ⟨M, hM⟩ := get_ex (l := nM P) (i := gT g) (by omega)
  obtain ⟨m1, m2, m3⟩ := p4 _ M hM
  obtain ⟨bas, a, hAb, hbl, hba, hg, hbo, hBc⟩ := bl_focus hB hi
  obtain ⟨mas, m, wk, pre, post, hAm, hml, hmk, hMk, rfl, hMc⟩ := ml_focus hML hM
  rw [← hml] at m1 hgm p1 q2 q3
  refine Mt.of (by decide) (Nat.le_of_ble_eq_true rfl) (fun X hX hR hin => ?_)
  refine g_lv1 (lv1 := [(0, .ref n), (1, .int (nI i))]) rfl ?_
  refine g_fl (cs1 := [[(n, ob 1 [.ref lm, .ref lb, .ref lr, .int (nLo P), .int (nNow P)])], wm, pre, wk, post, wb, wr, wq, fz]) (by simp only [List.flatten_cons, List.flatten_nil, List.cons_append, List.append_assoc, List.nil_append, List.append_nil]) ?_
  obtain ⟨ra1, sp2, ges3, f4, k15, k26, k37, k48, k59, k610⟩ := MsgIn.out hg
  refine g_aload_n hX (pc := 0) dX2_deliver_0 0 rfl ?_
  refine g_get hX (pc := 1) fcX2 0 rfl 1 (by decide) q157 rfl (v := .ref lb) rfl dX2_deliver_1 ?_
  refine g_iload_n hX (pc := 4) dX2_deliver_4 1 rfl ?_
  obtain ⟨fs11, hm12⟩ := AL.head hAb
  refine g_callF hX (pc := 5) kfJ2_get (mt_AL_get E l lb bas wb i a hAb (hba)) q203 fcJ2 (sp_in 5 rfl hm12) [5] rfl rfl rfl (Nat.le_of_ble_eq_true rfl) (Nat.le_of_ble_eq_true rfl) (Nat.le_of_ble_eq_true rfl) (by omega) (by omega) dX2_deliver_5 (fun v w1 hp => ?_)
  obtain ⟨rfl, rfl⟩ := hp
  refine g_nrm (cs1 := [wb, [(n, ob 1 [.ref lm, .ref lb, .ref lr, .int (nLo P), .int (nNow P)])], wm, pre, wk, post, wr, wq, fz]) (st1 := [.ref a]) rfl rfl ?_
  refine g_cast hX (pc := 10) fcX13 (sp_in 8 rfl k15) q977 dX2_deliver_10 ?_
  refine g_astore_n hX (pc := 13) (lv1 := [(2, .ref a), (0, .ref n), (1, .int (nI i))]) dX2_deliver_13 (by decide) rfl ?_
  refine g_aload_n hX (pc := 14) dX2_deliver_14 1 rfl ?_
  refine g_get hX (pc := 15) fcX2 1 rfl 1 (by decide) q157 rfl (v := .ref lb) rfl dX2_deliver_15 ?_
  refine g_iload_n hX (pc := 18) dX2_deliver_18 2 rfl ?_
  refine g_callF hX (pc := 19) kfJ2_remove (mt_AL_remove E l lb bas wb i a fz hAb (hba) (hbo)) q1101 fcJ2 (sp_in 0 rfl hm12) [0, 7] rfl rfl rfl (Nat.le_of_ble_eq_true rfl) (Nat.le_of_ble_eq_true rfl) (Nat.le_of_ble_eq_true rfl) (by omega) (by omega) dX2_deliver_19 (fun v w1 hp => ?_)
  obtain ⟨w113, h14, rfl, rfl⟩ := hp
  refine g_nrm (cs1 := [w113, fz, [(n, ob 1 [.ref lm, .ref lb, .ref lr, .int (nLo P), .int (nNow P)])], wm, pre, wk, post, wr, wq]) (st1 := [.ref a]) rfl rfl ?_
  have hB15 : BL E fz lb (Prod.fst (pB (List.eraseIdx (nB P) i) (nLo P))) w113 := hBc _ h14
  refine g_cs (cs1 := [w113, fz, [(n, ob 1 [.ref lm, .ref lb, .ref lr, .int (Prod.snd (pB (List.eraseIdx (nB P) i) (nLo P))), .int (nNow P)])], wm, pre, wk, post, wr, wq]) rfl ?_
  refine g_pop hX (pc := 24) dX2_deliver_24 rfl ?_
  refine g_aload_n hX (pc := 25) dX2_deliver_25 1 rfl ?_
  refine g_aload_n hX (pc := 26) dX2_deliver_26 0 rfl ?_
  refine g_getNm hX (pc := 27) fcX13 (sp_in 1 rfl k15) 2 (by decide) q1061 rfl (v := .int (nI (gT g))) rfl dX2_deliver_27 ?_
  refine g_callV hX (pc := 30) kX2_at (mt_Net_at E l n lm lb lr (Prod.snd (pB (List.eraseIdx (nB P) i) (nLo P))) (nNow P) mas wm (gT g) m M fz wk hAm hMk (hmk)) q198 fcX2 (sp_mem (i := 2) rfl) [2, 2, 3] rfl rfl rfl (Nat.le_of_ble_eq_true rfl) (Nat.le_of_ble_eq_true rfl) (Nat.le_of_ble_eq_true rfl) (by omega) (by omega) dX2_deliver_30 (fun v w1 hp => ?_)
  obtain ⟨rfl, rfl⟩ := hp
  refine g_nrm (cs1 := [[(n, ob 1 [.ref lm, .ref lb, .ref lr, .int (Prod.snd (pB (List.eraseIdx (nB P) i) (nLo P))), .int (nNow P)])], wm, wk, w113, fz, pre, post, wr, wq]) (st1 := [.ref m]) rfl rfl ?_
  refine g_astore_n hX (pc := 33) (lv1 := [(3, .ref m), (2, .ref a), (0, .ref n), (1, .int (nI i))]) dX2_deliver_33 (by decide) rfl ?_
  refine g_aload_n hX (pc := 34) dX2_deliver_34 0 rfl ?_
  obtain ⟨fs16, hm17⟩ := IsMach.head hMk
  refine g_callV hX (pc := 35) kX9_isUp (mt_Machine_isUpM E l m M wk fz hMk) q244 fcX9 (sp_in 2 rfl hm17) [2] rfl rfl rfl (Nat.le_of_ble_eq_true rfl) (Nat.le_of_ble_eq_true rfl) (Nat.le_of_ble_eq_true rfl) (by omega) (by omega) dX2_deliver_35 (fun v w1 hp => ?_)
  obtain ⟨rfl, rfl⟩ := hp
  refine g_nrm (cs1 := [wk, [(n, ob 1 [.ref lm, .ref lb, .ref lr, .int (Prod.snd (pB (List.eraseIdx (nB P) i) (nLo P))), .int (nNow P)])], wm, w113, fz, pre, post, wr, wq]) (st1 := [.int (if mR M = 0 then 0 else 1)]) rfl rfl ?_
  refine g_if_ne hX (pc := 38) (tgt := 56) dX2_deliver_38 rfl (fun c18_ => ?_) (fun c18_ => ?_)
  · have c18 := z01n.mp c18_
    have hxo : xOK (List.length mas) (List.length (nR P)) b ((mMeet M (gTm g)), (pB (List.eraseIdx (nB P) i) (nLo P))) := ⟨meet_ok m1, by show (List.eraseIdx (nB P) i).length ≤ 30; rw [List.length_eraseIdx]; split <;> omega, fun x hx => by rw [hml]; exact p5 x (List.mem_of_mem_eraseIdx hx)⟩
    have hmr : mSu (mMeet M (gTm g)) = mDn (mMeet M (gTm g)) := by unfold mMeet; split <;> exact m3
    have hmx := msg_xok hxo hgm hmr
    have hle1 := mLeads_le (sz := List.length mas) (M := (mMeet M (gTm g))) (g := g)
    obtain ⟨⟨o1, o2⟩, ⟨o3, o4⟩, ⟨o5, o6, o7, o8⟩, ⟨o9, o10⟩, o11, o12⟩ := meet_ok (t := gTm g) m1
    have hnl : nLeads P g = mLeads (List.length mas) (mMeet M (gTm g)) g := by rw [hml]; exact nLeads_up hM c18
    have hn30 : (Prod.fst (pB (List.eraseIdx (nB P) i) (nLo P))).length ≤ 30 := hxo.2.1
    obtain ⟨rn19, rk20, rl21, rs22, rst23, fn24, fk25, wl26, ws27, wst28, hn29, hL30, hV31, hS32, rfl⟩ := hMk
    obtain ⟨la33, sp34, ges35, wl26, hE36, hges37, hsp38, rfl⟩ := hL30
    refine g_fl (cs1 := [[(m, ob 8 [.int (nI (mN M)), .ref rn19, .ref rk20, .ref rl21, .ref rs22, .ref rst23, .int (mR M), .int (mVt M), .int (nI (mSu M)), .int (nI (mDn M)), .int (bI (mLz M))])], [(rn19, iA (aC E 0) 5 fn24)], [(rk20, iA (aC E 0) 5 fk25)], [(rl21, ob 9 [.ref la33, .int (lT (mL M)), .int (lV (mL M)), .int (nI (lB (mL M))), .int (lBT (mL M)), .ref sp34])], wl26, ws27, wst28, [(n, ob 1 [.ref lm, .ref lb, .ref lr, .int (Prod.snd (pB (List.eraseIdx (nB P) i) (nLo P))), .int (nNow P)])], wm, w113, fz, pre, post, wr, wq]) (by simp only [List.flatten_cons, List.flatten_nil, List.cons_append, List.append_assoc, List.nil_append, List.append_nil]) ?_
    have hl_ges35 : List.length ges35 = List.length (lE (mL M)) := by rw [← hges37, List.length_map]
    refine g_aload_n hX (pc := 56) dX2_deliver_56 0 rfl ?_
    refine g_aload_n hX (pc := 57) dX2_deliver_57 1 rfl ?_
    refine g_getNm hX (pc := 58) fcX13 (sp_in 10 rfl k15) 3 (by decide) q1063 rfl (v := .int (gTm g)) rfl dX2_deliver_58 ?_
    refine g_callV hX (pc := 61) kX9_meet (mt_Machine_meet E l m (nI (mN M)) rn19 rk20 rl21 rs22 rst23 (mR M) (mVt M) (nI (mSu M)) (nI (mDn M)) (bI (mLz M)) la33 (lT (mL M)) (lV (mL M)) (lB (mL M)) (lBT (mL M)) sp34 (gTm g)) q1196 fcX9 (sp_mem (i := 0) rfl) [0, 2] rfl rfl rfl (Nat.le_of_ble_eq_true rfl) (Nat.le_of_ble_eq_true rfl) (Nat.le_of_ble_eq_true rfl) (by omega) (by omega) dX2_deliver_61 (fun v w1 hp => ?_)
    obtain ⟨rfl, rfl⟩ := hp
    refine g_nrm (cs1 := [[(m, ob 8 [.int (nI (mN M)), .ref rn19, .ref rk20, .ref rl21, .ref rs22, .ref rst23, .int (if (lT (mL M)) < (gTm g) then 1 else (mR M)), .int (if (lT (mL M)) < (gTm g) then 0 else (mVt M)), .int (nI (mSu M)), .int (nI (mDn M)), .int (bI (mLz M))])], [(rl21, ob 9 [.ref la33, .int (if (lT (mL M)) < (gTm g) then (gTm g) else (lT (mL M))), .int (if (lT (mL M)) < (gTm g) then (-1) else (lV (mL M))), .int (nI (lB (mL M))), .int (lBT (mL M)), .ref sp34])], [(rn19, iA (aC E 0) 5 fn24)], [(rk20, iA (aC E 0) 5 fk25)], wl26, ws27, wst28, [(n, ob 1 [.ref lm, .ref lb, .ref lr, .int (Prod.snd (pB (List.eraseIdx (nB P) i) (nLo P))), .int (nNow P)])], wm, w113, fz, pre, post, wr, wq]) (st1 := []) rfl rfl ?_
    refine g_pk [0, 1, 1, 0, 0, 0, 0] rfl ?_
    refine g_cs (cs1 := [[(m, ob 8 [.int (nI (mN M)), .ref rn19, .ref rk20, .ref rl21, .ref rs22, .ref rst23, .int (if (lT (mL M)) < (gTm g) then 1 else (mR M)), .int (if (lT (mL M)) < (gTm g) then 0 else (mVt M)), .int (nI (mSu M)), .int (nI (mDn M)), .int (bI (mLz M))])], [(rn19, iA (aC E 0) 5 fn24)], [(rk20, iA (aC E 0) 5 fk25)], [(rl21, ob 9 [.ref la33, .int (if (lT (mL M)) < (gTm g) then (gTm g) else (lT (mL M))), .int (if (lT (mL M)) < (gTm g) then (-1) else (lV (mL M))), .int (nI (lB (mL M))), .int (lBT (mL M)), .ref sp34])], wl26, ws27, wst28, [(n, ob 1 [.ref lm, .ref lb, .ref lr, .int (Prod.snd (pB (List.eraseIdx (nB P) i) (nLo P))), .int (nNow P)])], wm, w113, fz, pre, post, wr, wq]) rfl ?_
    refine g_fl (cs1 := [((m, ob 8 [.int (nI (mN M)), .ref rn19, .ref rk20, .ref rl21, .ref rs22, .ref rst23, .int (if (lT (mL M)) < (gTm g) then 1 else (mR M)), .int (if (lT (mL M)) < (gTm g) then 0 else (mVt M)), .int (nI (mSu M)), .int (nI (mDn M)), .int (bI (mLz M))]) :: (rn19, iA (aC E 0) 5 fn24) :: (rk20, iA (aC E 0) 5 fk25) :: (((rl21, ob 9 [.ref la33, .int (if (lT (mL M)) < (gTm g) then (gTm g) else (lT (mL M))), .int (if (lT (mL M)) < (gTm g) then (-1) else (lV (mL M))), .int (nI (lB (mL M))), .int (lBT (mL M)), .ref sp34]) :: wl26) ++ (ws27 ++ wst28))), [(n, ob 1 [.ref lm, .ref lb, .ref lr, .int (Prod.snd (pB (List.eraseIdx (nB P) i) (nLo P))), .int (nNow P)])], wm, w113, fz, pre, post, wr, wq]) (by simp only [List.flatten_cons, List.flatten_nil, List.cons_append, List.append_assoc, List.nil_append, List.append_nil]) ?_
    have hM39 : IsMach E fz m (mMeetD M (gTm g)) ((m, ob 8 [.int (nI (mN M)), .ref rn19, .ref rk20, .ref rl21, .ref rs22, .ref rst23, .int (if (lT (mL M)) < (gTm g) then 1 else (mR M)), .int (if (lT (mL M)) < (gTm g) then 0 else (mVt M)), .int (nI (mSu M)), .int (nI (mDn M)), .int (bI (mLz M))]) :: (rn19, iA (aC E 0) 5 fn24) :: (rk20, iA (aC E 0) 5 fk25) :: (((rl21, ob 9 [.ref la33, .int (if (lT (mL M)) < (gTm g) then (gTm g) else (lT (mL M))), .int (if (lT (mL M)) < (gTm g) then (-1) else (lV (mL M))), .int (nI (lB (mL M))), .int (lBT (mL M)), .ref sp34]) :: wl26) ++ (ws27 ++ wst28))) := ⟨_, _, _, _, _, _, _, _, _, _, hn29, ⟨_, _, _, _, hE36, hges37, hsp38, rfl⟩, hV31, hS32, rfl⟩
    generalize ((m, ob 8 [.int (nI (mN M)), .ref rn19, .ref rk20, .ref rl21, .ref rs22, .ref rst23, .int (if (lT (mL M)) < (gTm g) then 1 else (mR M)), .int (if (lT (mL M)) < (gTm g) then 0 else (mVt M)), .int (nI (mSu M)), .int (nI (mDn M)), .int (bI (mLz M))]) :: (rn19, iA (aC E 0) 5 fn24) :: (rk20, iA (aC E 0) 5 fk25) :: (((rl21, ob 9 [.ref la33, .int (if (lT (mL M)) < (gTm g) then (gTm g) else (lT (mL M))), .int (if (lT (mL M)) < (gTm g) then (-1) else (lV (mL M))), .int (nI (lB (mL M))), .int (lBT (mL M)), .ref sp34]) :: wl26) ++ (ws27 ++ wst28))) = wk40 at hM39 ⊢
    have ht41 : mMeet M (gTm g) = mMeetD M (gTm g) := mMeetD_e M (gTm g)
    have h42 : IsMach E fz m (mMeet M (gTm g)) wk40 := by rw [ht41]; exact hM39
    refine g_aload_n hX (pc := 64) dX2_deliver_64 1 rfl ?_
    refine g_getNm hX (pc := 65) fcX13 (sp_in 4 rfl k15) 0 (by decide) q1056 rfl (v := .ref (aW E (gW g))) rfl dX2_deliver_65 ?_
    refine g_callU hX (pc := 68) (C := "Quorumspire$Word") (owner := "java/lang/Enum") (x := ⟨"Quorumspire$Word", "ordinal", "()I"⟩) (y := yJ11_ordinal) (n := 0) q804 q803 q802 q91 q800 rfl ⟨by decide +kernel, by decide +kernel, by decide +kernel⟩ (mt_ordW E l (gW g) (by omega)) q1204 (fun H locs hP hS => va_recvE (cx_gs hX).2.1 (i := (gW g)) (by show _ < 5; omega) hS) [] rfl rfl rfl (Nat.le_of_ble_eq_true rfl) (Nat.le_of_ble_eq_true rfl) (Nat.le_of_ble_eq_true rfl) (by omega) (by omega) dX2_deliver_68 (fun v w1 hp => ?_)
    obtain ⟨rfl, rfl⟩ := hp
    refine g_nrm (cs1 := [wk40, [(n, ob 1 [.ref lm, .ref lb, .ref lr, .int (Prod.snd (pB (List.eraseIdx (nB P) i) (nLo P))), .int (nNow P)])], wm, w113, fz, pre, post, wr, wq]) (st1 := [.int (nI (gW g))]) rfl rfl ?_
    rcases (show (gW g) = 0 ∨ (gW g) = 1 ∨ (gW g) = 2 ∨ (gW g) = 3 ∨ ((gW g) < 0 ∨ 3 < (gW g)) by omega) with h71_0 | h71_1 | h71_2 | h71_3 | h71_d
    · refine g_tableIn hX (pc := 71) (tgt := 100) (off := 29) dX2_deliver_71 (by rw [h71_0]; decide) (by rw [h71_0]; decide) (by rw [h71_0]; rfl) rfl ?_
      refine g_aload_n hX (pc := 100) dX2_deliver_100 2 rfl ?_
      refine g_aload_n hX (pc := 101) dX2_deliver_101 0 rfl ?_
      refine g_aload_n hX (pc := 102) dX2_deliver_102 1 rfl ?_
      refine g_callV hX (pc := 103) kX2_ask (mt_Net_ask E l n lm lb lr (nNow P) m (mMeet M (gTm g)) wk40 fz (pB (List.eraseIdx (nB P) i) (nLo P)) w113 a g h42 hB15 hg (hn30) (by omega) (by omega)) q1205 fcX2 (sp_mem (i := 1) rfl) [1, 0, 1, 1] rfl rfl rfl (Nat.le_of_ble_eq_true rfl) (Nat.le_of_ble_eq_true rfl) (Nat.le_of_ble_eq_true rfl) (by omega) (by omega) dX2_deliver_103 (fun v w1 hp => ?_)
      obtain ⟨fz143, w144, w245, h46, h47, h48, rfl, rfl⟩ := hp
      refine g_nrm (cs1 := [[(n, ob 1 [.ref lm, .ref lb, .ref lr, .int (Prod.snd (Prod.snd (pAsk (mMeet M (gTm g)) (pB (List.eraseIdx (nB P) i) (nLo P)) g))), .int (nNow P)])], w144, w245, fz143, wm, pre, post, wr, wq]) (st1 := []) rfl rfl ?_
      have h49 := ML.mono h46 hML
      have h50 := MsgIn.mono h46 hg
      have h51 := StIn.mono h46 k610
      have h52 := BL.mono h46 hB15
      have h53 := StIn.mono h46 hsp38
      have h54 := IsMach.mono h46 h42
      have hpm55 : (pMsg (List.length mas) (mMeet M (gTm g)) (pB (List.eraseIdx (nB P) i) (nLo P)) g) = (pAsk (mMeet M (gTm g)) (pB (List.eraseIdx (nB P) i) (nLo P)) g) := if_pos h71_0
      have h56 : IsMach E fz143 m (Prod.fst (pMsg (List.length mas) (mMeet M (gTm g)) (pB (List.eraseIdx (nB P) i) (nLo P)) g)) w144 := by rw [hpm55]; exact h47
      have h57 : BL E fz143 lb (Prod.fst (Prod.snd (pMsg (List.length mas) (mMeet M (gTm g)) (pB (List.eraseIdx (nB P) i) (nLo P)) g))) w245 := by rw [hpm55]; exact h48
      refine g_cs (cs1 := [[(n, ob 1 [.ref lm, .ref lb, .ref lr, .int (Prod.snd (Prod.snd (pMsg (List.length mas) (mMeet M (gTm g)) (pB (List.eraseIdx (nB P) i) (nLo P)) g))), .int (nNow P)])], w144, w245, fz143, wm, pre, post, wr, wq]) (by rw [hpm55]) ?_
      refine g_goto hX (pc := 106) (tgt := 197) dX2_deliver_106 rfl ?_
      refine g_aload_n hX (pc := 197) dX2_deliver_197 2 rfl ?_
      refine g_aload_n hX (pc := 198) dX2_deliver_198 0 rfl ?_
      refine g_callV hX (pc := 199) kX2_settle (mt_Net_settle E l n lm lb lr (Prod.snd (Prod.snd (pMsg (List.length mas) (mMeet M (gTm g)) (pB (List.eraseIdx (nB P) i) (nLo P)) g))) (nNow P) mas wm m (Prod.fst (pMsg (List.length mas) (mMeet M (gTm g)) (pB (List.eraseIdx (nB P) i) (nLo P)) g)) w144 fz143 (nR P) wr wq (b + mLeads (List.length mas) (mMeet M (gTm g)) g) hAm h56 hRq (hmx.1) (p3) (by omega)) q1139 fcX2 (sp_mem (i := 0) rfl) [0, 3, 0, 4, 4, 1] rfl rfl rfl (Nat.le_of_ble_eq_true rfl) (Nat.le_of_ble_eq_true rfl) (Nat.le_of_ble_eq_true rfl) (by omega) (by omega) dX2_deliver_199 (fun v w1 hp => ?_)
      obtain ⟨w158, w259, h60, h61, rfl, rfl⟩ := hp
      refine g_nrm (cs1 := [[(n, ob 1 [.ref lm, .ref lb, .ref lr, .int (Prod.snd (Prod.snd (pMsg (List.length mas) (mMeet M (gTm g)) (pB (List.eraseIdx (nB P) i) (nLo P)) g))), .int (nNow P)])], wm, w158, wr, w259, fz143, w245, pre, post]) (st1 := []) rfl rfl ?_
      refine g_aload_n hX (pc := 202) dX2_deliver_202 1 rfl ?_
      refine g_getNm hX (pc := 203) fcX13 (sp_in 5 rfl (h46 _ k15)) 2 (by decide) q1061 rfl (v := .int (nI (gT g))) rfl dX2_deliver_203 ?_
      have ht62 : List.length (nM P) = List.length mas := hml.symm
      refine g_cs (cs1 := [[(n, ob 1 [.ref lm, .ref lb, .ref lr, .int (Prod.snd (Prod.snd (pMsg (List.length (nM P)) (mMeet M (gTm g)) (pB (List.eraseIdx (nB P) i) (nLo P)) g))), .int (nNow P)])], wm, w158, wr, w259, fz143, w245, pre, post]) (by rw [ht62]) ?_
      have h63 : IsMach E fz143 m (Prod.fst (pMsg (List.length (nM P)) (mMeet M (gTm g)) (pB (List.eraseIdx (nB P) i) (nLo P)) g)) w144 := by rw [ht62]; exact h56
      have h64 : BL E fz143 lb (Prod.fst (Prod.snd (pMsg (List.length (nM P)) (mMeet M (gTm g)) (pB (List.eraseIdx (nB P) i) (nLo P)) g))) w245 := by rw [ht62]; exact h57
      have h65 : IsMach E fz143 m (Prod.fst (settle (List.length (nM P)) (nNow P) (Prod.fst (pMsg (List.length (nM P)) (mMeet M (gTm g)) (pB (List.eraseIdx (nB P) i) (nLo P)) g)) (nR P))) w158 := by rw [ht62]; exact h60
      have h66 : RL E lr (Prod.snd (settle (List.length (nM P)) (nNow P) (Prod.fst (pMsg (List.length (nM P)) (mMeet M (gTm g)) (pB (List.eraseIdx (nB P) i) (nLo P)) g)) (nR P))) wr w259 := by rw [ht62]; exact h61
      refine g_pk [7, 2, 6] rfl ?_
      refine g_cs (cs1 := [pre, w158, post, [(n, ob 1 [.ref lm, .ref lb, .ref lr, .int (Prod.snd (Prod.snd (pMsg (List.length (nM P)) (mMeet M (gTm g)) (pB (List.eraseIdx (nB P) i) (nLo P)) g))), .int (nNow P)])], wm, wr, w259, fz143, w245]) rfl ?_
      refine g_fl (cs1 := [(pre ++ (w158 ++ (post))), [(n, ob 1 [.ref lm, .ref lb, .ref lr, .int (Prod.snd (Prod.snd (pMsg (List.length (nM P)) (mMeet M (gTm g)) (pB (List.eraseIdx (nB P) i) (nLo P)) g))), .int (nNow P)])], wm, wr, w259, fz143, w245]) (by simp only [List.flatten_cons, List.flatten_nil, List.cons_append, List.append_assoc, List.nil_append, List.append_nil]) ?_
      have hML67 : ML E fz143 lm (List.set (nM P) (gT g) (Prod.fst (settle (List.length (nM P)) (nNow P) (Prod.fst (pMsg (List.length (nM P)) (mMeet M (gTm g)) (pB (List.eraseIdx (nB P) i) (nLo P)) g)) (nR P)))) wm (pre ++ (w158 ++ (post))) := hMc _ _ _ h46 h65
      generalize (pre ++ (w158 ++ (post))) = wM68 at hML67 ⊢
      refine g_pk [1, 1, 0, 3, 0, 0, 0] rfl ?_
      refine g_cs (cs1 := [[(n, ob 1 [.ref lm, .ref lb, .ref lr, .int (Prod.snd (Prod.snd (pMsg (List.length (nM P)) (mMeet M (gTm g)) (pB (List.eraseIdx (nB P) i) (nLo P)) g))), .int (nNow P)])], wm, wM68, w245, wr, w259, fz143]) rfl ?_
      refine g_iret hX (pc := 206) hR ?_ (by omega) (by omega) dX2_deliver_206
      rw [nDel_up hM c18]
      exact ⟨_, _, _, _, h46, hML67, h64, h66, rfl, rfl⟩
    · refine g_tableIn hX (pc := 71) (tgt := 109) (off := 38) dX2_deliver_71 (by rw [h71_1]; decide) (by rw [h71_1]; decide) (by rw [h71_1]; rfl) rfl ?_
      refine g_aload_n hX (pc := 109) dX2_deliver_109 1 rfl ?_
      refine g_getNm hX (pc := 110) fcX13 (sp_in 4 rfl k15) 6 (by decide) q1069 rfl (v := .int (bI (gY g))) rfl dX2_deliver_110 ?_
      refine g_if_eq hX (pc := 113) (tgt := 197) dX2_deliver_113 rfl (fun c69_ => ?_) (fun c69_ => ?_)
      · have c69 := bI_0.mp c69_
        have hpm70 : (pMsg (List.length mas) (mMeet M (gTm g)) (pB (List.eraseIdx (nB P) i) (nLo P)) g) = (en4 (mMeet M (gTm g)) (pB (List.eraseIdx (nB P) i) (nLo P))) := (if_neg (by omega)).trans ((if_pos h71_1).trans (if_neg (fun z => absurd z.1 (by rw [c69]; exact Bool.false_ne_true))))
        have h71 : IsMach E fz m (Prod.fst (pMsg (List.length mas) (mMeet M (gTm g)) (pB (List.eraseIdx (nB P) i) (nLo P)) g)) wk40 := by rw [hpm70]; exact h42
        have h72 : BL E fz lb (Prod.fst (Prod.snd (pMsg (List.length mas) (mMeet M (gTm g)) (pB (List.eraseIdx (nB P) i) (nLo P)) g))) w113 := by rw [hpm70]; exact hB15
        refine g_cs (cs1 := [wk40, [(n, ob 1 [.ref lm, .ref lb, .ref lr, .int (Prod.snd (Prod.snd (pMsg (List.length mas) (mMeet M (gTm g)) (pB (List.eraseIdx (nB P) i) (nLo P)) g))), .int (nNow P)])], wm, w113, fz, pre, post, wr, wq]) (by rw [hpm70]) ?_
        refine g_aload_n hX (pc := 197) dX2_deliver_197 2 rfl ?_
        refine g_aload_n hX (pc := 198) dX2_deliver_198 0 rfl ?_
        refine g_callV hX (pc := 199) kX2_settle (mt_Net_settle E l n lm lb lr (Prod.snd (Prod.snd (pMsg (List.length mas) (mMeet M (gTm g)) (pB (List.eraseIdx (nB P) i) (nLo P)) g))) (nNow P) mas wm m (Prod.fst (pMsg (List.length mas) (mMeet M (gTm g)) (pB (List.eraseIdx (nB P) i) (nLo P)) g)) wk40 fz (nR P) wr wq (b + mLeads (List.length mas) (mMeet M (gTm g)) g) hAm h71 hRq (hmx.1) (p3) (by omega)) q1139 fcX2 (sp_mem (i := 1) rfl) [1, 1, 0, 4, 4, 1] rfl rfl rfl (Nat.le_of_ble_eq_true rfl) (Nat.le_of_ble_eq_true rfl) (Nat.le_of_ble_eq_true rfl) (by omega) (by omega) dX2_deliver_199 (fun v w1 hp => ?_)
        obtain ⟨w173, w274, h75, h76, rfl, rfl⟩ := hp
        refine g_nrm (cs1 := [[(n, ob 1 [.ref lm, .ref lb, .ref lr, .int (Prod.snd (Prod.snd (pMsg (List.length mas) (mMeet M (gTm g)) (pB (List.eraseIdx (nB P) i) (nLo P)) g))), .int (nNow P)])], wm, w173, wr, w274, fz, w113, pre, post]) (st1 := []) rfl rfl ?_
        refine g_aload_n hX (pc := 202) dX2_deliver_202 1 rfl ?_
        refine g_getNm hX (pc := 203) fcX13 (sp_in 5 rfl k15) 2 (by decide) q1061 rfl (v := .int (nI (gT g))) rfl dX2_deliver_203 ?_
        have ht77 : List.length (nM P) = List.length mas := hml.symm
        refine g_cs (cs1 := [[(n, ob 1 [.ref lm, .ref lb, .ref lr, .int (Prod.snd (Prod.snd (pMsg (List.length (nM P)) (mMeet M (gTm g)) (pB (List.eraseIdx (nB P) i) (nLo P)) g))), .int (nNow P)])], wm, w173, wr, w274, fz, w113, pre, post]) (by rw [ht77]) ?_
        have h78 : IsMach E fz m (Prod.fst (pMsg (List.length (nM P)) (mMeet M (gTm g)) (pB (List.eraseIdx (nB P) i) (nLo P)) g)) wk40 := by rw [ht77]; exact h71
        have h79 : BL E fz lb (Prod.fst (Prod.snd (pMsg (List.length (nM P)) (mMeet M (gTm g)) (pB (List.eraseIdx (nB P) i) (nLo P)) g))) w113 := by rw [ht77]; exact h72
        have h80 : IsMach E fz m (Prod.fst (settle (List.length (nM P)) (nNow P) (Prod.fst (pMsg (List.length (nM P)) (mMeet M (gTm g)) (pB (List.eraseIdx (nB P) i) (nLo P)) g)) (nR P))) w173 := by rw [ht77]; exact h75
        have h81 : RL E lr (Prod.snd (settle (List.length (nM P)) (nNow P) (Prod.fst (pMsg (List.length (nM P)) (mMeet M (gTm g)) (pB (List.eraseIdx (nB P) i) (nLo P)) g)) (nR P))) wr w274 := by rw [ht77]; exact h76
        refine g_pk [7, 2, 6] rfl ?_
        refine g_cs (cs1 := [pre, w173, post, [(n, ob 1 [.ref lm, .ref lb, .ref lr, .int (Prod.snd (Prod.snd (pMsg (List.length (nM P)) (mMeet M (gTm g)) (pB (List.eraseIdx (nB P) i) (nLo P)) g))), .int (nNow P)])], wm, wr, w274, fz, w113]) rfl ?_
        refine g_fl (cs1 := [(pre ++ (w173 ++ (post))), [(n, ob 1 [.ref lm, .ref lb, .ref lr, .int (Prod.snd (Prod.snd (pMsg (List.length (nM P)) (mMeet M (gTm g)) (pB (List.eraseIdx (nB P) i) (nLo P)) g))), .int (nNow P)])], wm, wr, w274, fz, w113]) (by simp only [List.flatten_cons, List.flatten_nil, List.cons_append, List.append_assoc, List.nil_append, List.append_nil]) ?_
        have hML82 : ML E fz lm (List.set (nM P) (gT g) (Prod.fst (settle (List.length (nM P)) (nNow P) (Prod.fst (pMsg (List.length (nM P)) (mMeet M (gTm g)) (pB (List.eraseIdx (nB P) i) (nLo P)) g)) (nR P)))) wm (pre ++ (w173 ++ (post))) := hMc _ _ _ Ext.rfl' h80
        generalize (pre ++ (w173 ++ (post))) = wM83 at hML82 ⊢
        refine g_pk [1, 1, 0, 3, 0, 0, 0] rfl ?_
        refine g_cs (cs1 := [[(n, ob 1 [.ref lm, .ref lb, .ref lr, .int (Prod.snd (Prod.snd (pMsg (List.length (nM P)) (mMeet M (gTm g)) (pB (List.eraseIdx (nB P) i) (nLo P)) g))), .int (nNow P)])], wm, wM83, w113, wr, w274, fz]) rfl ?_
        refine g_iret hX (pc := 206) hR ?_ (by omega) (by omega) dX2_deliver_206
        rw [nDel_up hM c18]
        exact ⟨_, _, _, _, Ext.rfl', hML82, h79, h81, rfl, rfl⟩
      · have c69 := mt bI_0.mpr c69_
        obtain ⟨rn84, rk85, rl86, rs87, rst88, la89, sp90, hpk91, hpl92⟩ := h42.peek
        refine g_aload_n hX (pc := 116) dX2_deliver_116 0 rfl ?_
        refine g_getNm hX (pc := 117) fcX9 (sp_in 0 rfl hpk91) 6 (by decide) q941 rfl (v := .int (mR (mMeet M (gTm g)))) rfl dX2_deliver_117 ?_
        refine g_iconst hX (pc := 120) (v := 2) dX2_deliver_120 (by decide) ?_
        refine g_icmp_ne hX (pc := 121) (tgt := 197) dX2_deliver_121 rfl (fun c93 => ?_) (fun c93 => ?_)
        · have hpm94 : (pMsg (List.length mas) (mMeet M (gTm g)) (pB (List.eraseIdx (nB P) i) (nLo P)) g) = (en4 (mMeet M (gTm g)) (pB (List.eraseIdx (nB P) i) (nLo P))) := (if_neg (by omega)).trans ((if_pos h71_1).trans (if_neg (fun z => c93 z.2.1)))
          have h95 : IsMach E fz m (Prod.fst (pMsg (List.length mas) (mMeet M (gTm g)) (pB (List.eraseIdx (nB P) i) (nLo P)) g)) wk40 := by rw [hpm94]; exact h42
          have h96 : BL E fz lb (Prod.fst (Prod.snd (pMsg (List.length mas) (mMeet M (gTm g)) (pB (List.eraseIdx (nB P) i) (nLo P)) g))) w113 := by rw [hpm94]; exact hB15
          refine g_cs (cs1 := [wk40, [(n, ob 1 [.ref lm, .ref lb, .ref lr, .int (Prod.snd (Prod.snd (pMsg (List.length mas) (mMeet M (gTm g)) (pB (List.eraseIdx (nB P) i) (nLo P)) g))), .int (nNow P)])], wm, w113, fz, pre, post, wr, wq]) (by rw [hpm94]) ?_
          refine g_aload_n hX (pc := 197) dX2_deliver_197 2 rfl ?_
          refine g_aload_n hX (pc := 198) dX2_deliver_198 0 rfl ?_
          refine g_callV hX (pc := 199) kX2_settle (mt_Net_settle E l n lm lb lr (Prod.snd (Prod.snd (pMsg (List.length mas) (mMeet M (gTm g)) (pB (List.eraseIdx (nB P) i) (nLo P)) g))) (nNow P) mas wm m (Prod.fst (pMsg (List.length mas) (mMeet M (gTm g)) (pB (List.eraseIdx (nB P) i) (nLo P)) g)) wk40 fz (nR P) wr wq (b + mLeads (List.length mas) (mMeet M (gTm g)) g) hAm h95 hRq (hmx.1) (p3) (by omega)) q1139 fcX2 (sp_mem (i := 1) rfl) [1, 1, 0, 4, 4, 1] rfl rfl rfl (Nat.le_of_ble_eq_true rfl) (Nat.le_of_ble_eq_true rfl) (Nat.le_of_ble_eq_true rfl) (by omega) (by omega) dX2_deliver_199 (fun v w1 hp => ?_)
          obtain ⟨w197, w298, h99, h100, rfl, rfl⟩ := hp
          refine g_nrm (cs1 := [[(n, ob 1 [.ref lm, .ref lb, .ref lr, .int (Prod.snd (Prod.snd (pMsg (List.length mas) (mMeet M (gTm g)) (pB (List.eraseIdx (nB P) i) (nLo P)) g))), .int (nNow P)])], wm, w197, wr, w298, fz, w113, pre, post]) (st1 := []) rfl rfl ?_
          refine g_aload_n hX (pc := 202) dX2_deliver_202 1 rfl ?_
          refine g_getNm hX (pc := 203) fcX13 (sp_in 5 rfl k15) 2 (by decide) q1061 rfl (v := .int (nI (gT g))) rfl dX2_deliver_203 ?_
          have ht101 : List.length (nM P) = List.length mas := hml.symm
          refine g_cs (cs1 := [[(n, ob 1 [.ref lm, .ref lb, .ref lr, .int (Prod.snd (Prod.snd (pMsg (List.length (nM P)) (mMeet M (gTm g)) (pB (List.eraseIdx (nB P) i) (nLo P)) g))), .int (nNow P)])], wm, w197, wr, w298, fz, w113, pre, post]) (by rw [ht101]) ?_
          have h102 : IsMach E fz m (Prod.fst (pMsg (List.length (nM P)) (mMeet M (gTm g)) (pB (List.eraseIdx (nB P) i) (nLo P)) g)) wk40 := by rw [ht101]; exact h95
          have h103 : BL E fz lb (Prod.fst (Prod.snd (pMsg (List.length (nM P)) (mMeet M (gTm g)) (pB (List.eraseIdx (nB P) i) (nLo P)) g))) w113 := by rw [ht101]; exact h96
          have h104 : IsMach E fz m (Prod.fst (settle (List.length (nM P)) (nNow P) (Prod.fst (pMsg (List.length (nM P)) (mMeet M (gTm g)) (pB (List.eraseIdx (nB P) i) (nLo P)) g)) (nR P))) w197 := by rw [ht101]; exact h99
          have h105 : RL E lr (Prod.snd (settle (List.length (nM P)) (nNow P) (Prod.fst (pMsg (List.length (nM P)) (mMeet M (gTm g)) (pB (List.eraseIdx (nB P) i) (nLo P)) g)) (nR P))) wr w298 := by rw [ht101]; exact h100
          refine g_pk [7, 2, 6] rfl ?_
          refine g_cs (cs1 := [pre, w197, post, [(n, ob 1 [.ref lm, .ref lb, .ref lr, .int (Prod.snd (Prod.snd (pMsg (List.length (nM P)) (mMeet M (gTm g)) (pB (List.eraseIdx (nB P) i) (nLo P)) g))), .int (nNow P)])], wm, wr, w298, fz, w113]) rfl ?_
          refine g_fl (cs1 := [(pre ++ (w197 ++ (post))), [(n, ob 1 [.ref lm, .ref lb, .ref lr, .int (Prod.snd (Prod.snd (pMsg (List.length (nM P)) (mMeet M (gTm g)) (pB (List.eraseIdx (nB P) i) (nLo P)) g))), .int (nNow P)])], wm, wr, w298, fz, w113]) (by simp only [List.flatten_cons, List.flatten_nil, List.cons_append, List.append_assoc, List.nil_append, List.append_nil]) ?_
          have hML106 : ML E fz lm (List.set (nM P) (gT g) (Prod.fst (settle (List.length (nM P)) (nNow P) (Prod.fst (pMsg (List.length (nM P)) (mMeet M (gTm g)) (pB (List.eraseIdx (nB P) i) (nLo P)) g)) (nR P)))) wm (pre ++ (w197 ++ (post))) := hMc _ _ _ Ext.rfl' h104
          generalize (pre ++ (w197 ++ (post))) = wM107 at hML106 ⊢
          refine g_pk [1, 1, 0, 3, 0, 0, 0] rfl ?_
          refine g_cs (cs1 := [[(n, ob 1 [.ref lm, .ref lb, .ref lr, .int (Prod.snd (Prod.snd (pMsg (List.length (nM P)) (mMeet M (gTm g)) (pB (List.eraseIdx (nB P) i) (nLo P)) g))), .int (nNow P)])], wm, wM107, w113, wr, w298, fz]) rfl ?_
          refine g_iret hX (pc := 206) hR ?_ (by omega) (by omega) dX2_deliver_206
          rw [nDel_up hM c18]
          exact ⟨_, _, _, _, Ext.rfl', hML106, h103, h105, rfl, rfl⟩
        · obtain ⟨rn108, rk109, rl110, rs111, rst112, la113, sp114, hpk115, hpl116⟩ := h42.peek
          refine g_aload_n hX (pc := 124) dX2_deliver_124 1 rfl ?_
          refine g_getNm hX (pc := 125) fcX13 (sp_in 4 rfl k15) 3 (by decide) q1063 rfl (v := .int (gTm g)) rfl dX2_deliver_125 ?_
          refine g_aload_n hX (pc := 128) dX2_deliver_128 0 rfl ?_
          refine g_getNm hX (pc := 129) fcX9 (sp_in 0 rfl hpk115) 3 (by decide) q933 rfl (v := .ref rl110) rfl dX2_deliver_129 ?_
          refine g_getNm hX (pc := 132) fcX10 (sp_in 0 rfl hpl116) 1 (by decide) q844 rfl (v := .int (lT (mL (mMeet M (gTm g))))) rfl dX2_deliver_132 ?_
          refine g_icmp_ne hX (pc := 135) (tgt := 197) dX2_deliver_135 rfl (fun c117 => ?_) (fun c117 => ?_)
          · have hpm118 : (pMsg (List.length mas) (mMeet M (gTm g)) (pB (List.eraseIdx (nB P) i) (nLo P)) g) = (en4 (mMeet M (gTm g)) (pB (List.eraseIdx (nB P) i) (nLo P))) := (if_neg (by omega)).trans ((if_pos h71_1).trans (if_neg (fun z => c117 z.2.2)))
            have h119 : IsMach E fz m (Prod.fst (pMsg (List.length mas) (mMeet M (gTm g)) (pB (List.eraseIdx (nB P) i) (nLo P)) g)) wk40 := by rw [hpm118]; exact h42
            have h120 : BL E fz lb (Prod.fst (Prod.snd (pMsg (List.length mas) (mMeet M (gTm g)) (pB (List.eraseIdx (nB P) i) (nLo P)) g))) w113 := by rw [hpm118]; exact hB15
            refine g_cs (cs1 := [wk40, [(n, ob 1 [.ref lm, .ref lb, .ref lr, .int (Prod.snd (Prod.snd (pMsg (List.length mas) (mMeet M (gTm g)) (pB (List.eraseIdx (nB P) i) (nLo P)) g))), .int (nNow P)])], wm, w113, fz, pre, post, wr, wq]) (by rw [hpm118]) ?_
            refine g_aload_n hX (pc := 197) dX2_deliver_197 2 rfl ?_
            refine g_aload_n hX (pc := 198) dX2_deliver_198 0 rfl ?_
            refine g_callV hX (pc := 199) kX2_settle (mt_Net_settle E l n lm lb lr (Prod.snd (Prod.snd (pMsg (List.length mas) (mMeet M (gTm g)) (pB (List.eraseIdx (nB P) i) (nLo P)) g))) (nNow P) mas wm m (Prod.fst (pMsg (List.length mas) (mMeet M (gTm g)) (pB (List.eraseIdx (nB P) i) (nLo P)) g)) wk40 fz (nR P) wr wq (b + mLeads (List.length mas) (mMeet M (gTm g)) g) hAm h119 hRq (hmx.1) (p3) (by omega)) q1139 fcX2 (sp_mem (i := 1) rfl) [1, 1, 0, 4, 4, 1] rfl rfl rfl (Nat.le_of_ble_eq_true rfl) (Nat.le_of_ble_eq_true rfl) (Nat.le_of_ble_eq_true rfl) (by omega) (by omega) dX2_deliver_199 (fun v w1 hp => ?_)
            obtain ⟨w1121, w2122, h123, h124, rfl, rfl⟩ := hp
            refine g_nrm (cs1 := [[(n, ob 1 [.ref lm, .ref lb, .ref lr, .int (Prod.snd (Prod.snd (pMsg (List.length mas) (mMeet M (gTm g)) (pB (List.eraseIdx (nB P) i) (nLo P)) g))), .int (nNow P)])], wm, w1121, wr, w2122, fz, w113, pre, post]) (st1 := []) rfl rfl ?_
            refine g_aload_n hX (pc := 202) dX2_deliver_202 1 rfl ?_
            refine g_getNm hX (pc := 203) fcX13 (sp_in 5 rfl k15) 2 (by decide) q1061 rfl (v := .int (nI (gT g))) rfl dX2_deliver_203 ?_
            have ht125 : List.length (nM P) = List.length mas := hml.symm
            refine g_cs (cs1 := [[(n, ob 1 [.ref lm, .ref lb, .ref lr, .int (Prod.snd (Prod.snd (pMsg (List.length (nM P)) (mMeet M (gTm g)) (pB (List.eraseIdx (nB P) i) (nLo P)) g))), .int (nNow P)])], wm, w1121, wr, w2122, fz, w113, pre, post]) (by rw [ht125]) ?_
            have h126 : IsMach E fz m (Prod.fst (pMsg (List.length (nM P)) (mMeet M (gTm g)) (pB (List.eraseIdx (nB P) i) (nLo P)) g)) wk40 := by rw [ht125]; exact h119
            have h127 : BL E fz lb (Prod.fst (Prod.snd (pMsg (List.length (nM P)) (mMeet M (gTm g)) (pB (List.eraseIdx (nB P) i) (nLo P)) g))) w113 := by rw [ht125]; exact h120
            have h128 : IsMach E fz m (Prod.fst (settle (List.length (nM P)) (nNow P) (Prod.fst (pMsg (List.length (nM P)) (mMeet M (gTm g)) (pB (List.eraseIdx (nB P) i) (nLo P)) g)) (nR P))) w1121 := by rw [ht125]; exact h123
            have h129 : RL E lr (Prod.snd (settle (List.length (nM P)) (nNow P) (Prod.fst (pMsg (List.length (nM P)) (mMeet M (gTm g)) (pB (List.eraseIdx (nB P) i) (nLo P)) g)) (nR P))) wr w2122 := by rw [ht125]; exact h124
            refine g_pk [7, 2, 6] rfl ?_
            refine g_cs (cs1 := [pre, w1121, post, [(n, ob 1 [.ref lm, .ref lb, .ref lr, .int (Prod.snd (Prod.snd (pMsg (List.length (nM P)) (mMeet M (gTm g)) (pB (List.eraseIdx (nB P) i) (nLo P)) g))), .int (nNow P)])], wm, wr, w2122, fz, w113]) rfl ?_
            refine g_fl (cs1 := [(pre ++ (w1121 ++ (post))), [(n, ob 1 [.ref lm, .ref lb, .ref lr, .int (Prod.snd (Prod.snd (pMsg (List.length (nM P)) (mMeet M (gTm g)) (pB (List.eraseIdx (nB P) i) (nLo P)) g))), .int (nNow P)])], wm, wr, w2122, fz, w113]) (by simp only [List.flatten_cons, List.flatten_nil, List.cons_append, List.append_assoc, List.nil_append, List.append_nil]) ?_
            have hML130 : ML E fz lm (List.set (nM P) (gT g) (Prod.fst (settle (List.length (nM P)) (nNow P) (Prod.fst (pMsg (List.length (nM P)) (mMeet M (gTm g)) (pB (List.eraseIdx (nB P) i) (nLo P)) g)) (nR P)))) wm (pre ++ (w1121 ++ (post))) := hMc _ _ _ Ext.rfl' h128
            generalize (pre ++ (w1121 ++ (post))) = wM131 at hML130 ⊢
            refine g_pk [1, 1, 0, 3, 0, 0, 0] rfl ?_
            refine g_cs (cs1 := [[(n, ob 1 [.ref lm, .ref lb, .ref lr, .int (Prod.snd (Prod.snd (pMsg (List.length (nM P)) (mMeet M (gTm g)) (pB (List.eraseIdx (nB P) i) (nLo P)) g))), .int (nNow P)])], wm, wM131, w113, wr, w2122, fz]) rfl ?_
            refine g_iret hX (pc := 206) hR ?_ (by omega) (by omega) dX2_deliver_206
            rw [nDel_up hM c18]
            exact ⟨_, _, _, _, Ext.rfl', hML130, h127, h129, rfl, rfl⟩
          · obtain ⟨rn132, rk133, rl134, rs135, rst136, fn137, fk138, wl139, ws140, wst141, hn142, hL143, hV144, hS145, rfl⟩ := h42
            obtain ⟨la146, sp147, ges148, wl139, hE149, hges150, hsp151, rfl⟩ := hL143
            refine g_fl (cs1 := [[(m, ob 8 [.int (nI (mN (mMeet M (gTm g)))), .ref rn132, .ref rk133, .ref rl134, .ref rs135, .ref rst136, .int (mR (mMeet M (gTm g))), .int (mVt (mMeet M (gTm g))), .int (nI (mSu (mMeet M (gTm g)))), .int (nI (mDn (mMeet M (gTm g)))), .int (bI (mLz (mMeet M (gTm g))))])], [(rn132, iA (aC E 0) 5 fn137)], [(rk133, iA (aC E 0) 5 fk138)], [(rl134, ob 9 [.ref la146, .int (lT (mL (mMeet M (gTm g)))), .int (lV (mL (mMeet M (gTm g)))), .int (nI (lB (mL (mMeet M (gTm g))))), .int (lBT (mL (mMeet M (gTm g)))), .ref sp147])], wl139, ws140, wst141, [(n, ob 1 [.ref lm, .ref lb, .ref lr, .int (Prod.snd (pB (List.eraseIdx (nB P) i) (nLo P))), .int (nNow P)])], wm, w113, fz, pre, post, wr, wq]) (by simp only [List.flatten_cons, List.flatten_nil, List.cons_append, List.append_assoc, List.nil_append, List.append_nil]) ?_
            have hl_ges148 : List.length ges148 = List.length (lE (mL (mMeet M (gTm g)))) := by rw [← hges150, List.length_map]
            refine g_aload_n hX (pc := 138) dX2_deliver_138 0 rfl ?_
            refine g_dup hX (pc := 139) dX2_deliver_139 rfl ?_
            refine g_getN hX (pc := 140) fcX9 0 rfl 7 (by decide) q943 rfl (v := .int (mVt (mMeet M (gTm g)))) rfl dX2_deliver_140 ?_
            refine g_iconst hX (pc := 143) (v := 1) dX2_deliver_143 (by decide) ?_
            refine g_aload_n hX (pc := 144) dX2_deliver_144 1 rfl ?_
            refine g_getNm hX (pc := 145) fcX13 (sp_in 10 rfl k15) 1 (by decide) q1059 rfl (v := .int (nI (gF g))) rfl dX2_deliver_145 ?_
            refine g_ishl hX (pc := 148) dX2_deliver_148 ?_
            refine g_ior hX (pc := 149) dX2_deliver_149 ?_
            refine g_putN hX (pc := 150) fcX9 0 (fs1 := [.int (nI (mN (mMeet M (gTm g)))), .ref rn132, .ref rk133, .ref rl134, .ref rs135, .ref rst136, .int (mR (mMeet M (gTm g))), .int ((mVt (mMeet M (gTm g))) ||| (1 <<< ((nI (gF g)) &&& 31))), .int (nI (mSu (mMeet M (gTm g)))), .int (nI (mDn (mMeet M (gTm g)))), .int (bI (mLz (mMeet M (gTm g))))]) (cs1 := [[(m, ob 8 [.int (nI (mN (mMeet M (gTm g)))), .ref rn132, .ref rk133, .ref rl134, .ref rs135, .ref rst136, .int (mR (mMeet M (gTm g))), .int ((mVt (mMeet M (gTm g))) ||| (1 <<< ((nI (gF g)) &&& 31))), .int (nI (mSu (mMeet M (gTm g)))), .int (nI (mDn (mMeet M (gTm g)))), .int (bI (mLz (mMeet M (gTm g))))])], [(rn132, iA (aC E 0) 5 fn137)], [(rk133, iA (aC E 0) 5 fk138)], [(rl134, ob 9 [.ref la146, .int (lT (mL (mMeet M (gTm g)))), .int (lV (mL (mMeet M (gTm g)))), .int (nI (lB (mL (mMeet M (gTm g))))), .int (lBT (mL (mMeet M (gTm g)))), .ref sp147])], wl139, ws140, wst141, [(n, ob 1 [.ref lm, .ref lb, .ref lr, .int (Prod.snd (pB (List.eraseIdx (nB P) i) (nLo P))), .int (nNow P)])], wm, w113, fz, pre, post, wr, wq]) rfl 7 (by decide) q943 rfl rfl rfl rfl (Nat.le_of_ble_eq_true rfl) rfl rfl dX2_deliver_150 ?_
            refine g_pk [0, 0, 0, 0, 0, 0, 0] rfl ?_
            refine g_cs (cs1 := [[(m, ob 8 [.int (nI (mN (mMeet M (gTm g)))), .ref rn132, .ref rk133, .ref rl134, .ref rs135, .ref rst136, .int (mR (mMeet M (gTm g))), .int ((mVt (mMeet M (gTm g))) ||| (1 <<< ((nI (gF g)) &&& 31))), .int (nI (mSu (mMeet M (gTm g)))), .int (nI (mDn (mMeet M (gTm g)))), .int (bI (mLz (mMeet M (gTm g))))])], [(rn132, iA (aC E 0) 5 fn137)], [(rk133, iA (aC E 0) 5 fk138)], [(rl134, ob 9 [.ref la146, .int (lT (mL (mMeet M (gTm g)))), .int (lV (mL (mMeet M (gTm g)))), .int (nI (lB (mL (mMeet M (gTm g))))), .int (lBT (mL (mMeet M (gTm g)))), .ref sp147])], wl139, ws140, wst141, [(n, ob 1 [.ref lm, .ref lb, .ref lr, .int (Prod.snd (pB (List.eraseIdx (nB P) i) (nLo P))), .int (nNow P)])], wm, w113, fz, pre, post, wr, wq]) rfl ?_
            refine g_fl (cs1 := [((m, ob 8 [.int (nI (mN (mMeet M (gTm g)))), .ref rn132, .ref rk133, .ref rl134, .ref rs135, .ref rst136, .int (mR (mMeet M (gTm g))), .int ((mVt (mMeet M (gTm g))) ||| (1 <<< ((nI (gF g)) &&& 31))), .int (nI (mSu (mMeet M (gTm g)))), .int (nI (mDn (mMeet M (gTm g)))), .int (bI (mLz (mMeet M (gTm g))))]) :: (rn132, iA (aC E 0) 5 fn137) :: (rk133, iA (aC E 0) 5 fk138) :: (((rl134, ob 9 [.ref la146, .int (lT (mL (mMeet M (gTm g)))), .int (lV (mL (mMeet M (gTm g)))), .int (nI (lB (mL (mMeet M (gTm g))))), .int (lBT (mL (mMeet M (gTm g)))), .ref sp147]) :: wl139) ++ (ws140 ++ wst141))), [(n, ob 1 [.ref lm, .ref lb, .ref lr, .int (Prod.snd (pB (List.eraseIdx (nB P) i) (nLo P))), .int (nNow P)])], wm, w113, fz, pre, post, wr, wq]) (by simp only [List.flatten_cons, List.flatten_nil, List.cons_append, List.append_assoc, List.nil_append, List.append_nil]) ?_
            have hM152 : IsMach E fz m (mVote (mMeet M (gTm g)) g) ((m, ob 8 [.int (nI (mN (mMeet M (gTm g)))), .ref rn132, .ref rk133, .ref rl134, .ref rs135, .ref rst136, .int (mR (mMeet M (gTm g))), .int ((mVt (mMeet M (gTm g))) ||| (1 <<< ((nI (gF g)) &&& 31))), .int (nI (mSu (mMeet M (gTm g)))), .int (nI (mDn (mMeet M (gTm g)))), .int (bI (mLz (mMeet M (gTm g))))]) :: (rn132, iA (aC E 0) 5 fn137) :: (rk133, iA (aC E 0) 5 fk138) :: (((rl134, ob 9 [.ref la146, .int (lT (mL (mMeet M (gTm g)))), .int (lV (mL (mMeet M (gTm g)))), .int (nI (lB (mL (mMeet M (gTm g))))), .int (lBT (mL (mMeet M (gTm g)))), .ref sp147]) :: wl139) ++ (ws140 ++ wst141))) := ⟨_, _, _, _, _, _, _, _, _, _, hn142, ⟨_, _, _, _, hE149, hges150, hsp151, rfl⟩, hV144, hS145, rfl⟩
            generalize ((m, ob 8 [.int (nI (mN (mMeet M (gTm g)))), .ref rn132, .ref rk133, .ref rl134, .ref rs135, .ref rst136, .int (mR (mMeet M (gTm g))), .int ((mVt (mMeet M (gTm g))) ||| (1 <<< ((nI (gF g)) &&& 31))), .int (nI (mSu (mMeet M (gTm g)))), .int (nI (mDn (mMeet M (gTm g)))), .int (bI (mLz (mMeet M (gTm g))))]) :: (rn132, iA (aC E 0) 5 fn137) :: (rk133, iA (aC E 0) 5 fk138) :: (((rl134, ob 9 [.ref la146, .int (lT (mL (mMeet M (gTm g)))), .int (lV (mL (mMeet M (gTm g)))), .int (nI (lB (mL (mMeet M (gTm g))))), .int (lBT (mL (mMeet M (gTm g)))), .ref sp147]) :: wl139) ++ (ws140 ++ wst141))) = wk153 at hM152 ⊢
            have hlc := ldC_n (sz := List.length mas) (v := mVt (mVote (mMeet M (gTm g)) g)) p1
            have hlv := mLeads_v (sz := List.length mas) h71_1 ⟨by simpa using c69, c93, c117⟩
            refine g_aload_n hX (pc := 153) dX2_deliver_153 2 rfl ?_
            refine g_aload_n hX (pc := 154) dX2_deliver_154 0 rfl ?_
            refine g_callV hX (pc := 155) kX2_leadIf (mt_Net_leadIf E l n lm lb lr (nNow P) mas wm m (mVote (mMeet M (gTm g)) g) wk153 fz (pB (List.eraseIdx (nB P) i) (nLo P)) w113 hAm (p1) hM152 hB15 (by show lLast (mL (mMeet M (gTm g))) ≤ 55; omega) (by show mN (mMeet M (gTm g)) < 5; omega) (hn30)) q1102 fcX2 (sp_mem (i := 1) rfl) [1, 1, 0, 0, 0] rfl rfl rfl (Nat.le_of_ble_eq_true rfl) (Nat.le_of_ble_eq_true rfl) (Nat.le_of_ble_eq_true rfl) (by omega) (by omega) dX2_deliver_155 (fun v w1 hp => ?_)
            obtain ⟨fz1154, w1155, w2156, h157, h158, h159, rfl, rfl⟩ := hp
            refine g_nrm (cs1 := [[(n, ob 1 [.ref lm, .ref lb, .ref lr, .int (Prod.snd (Prod.snd (leadIf (List.length mas) (mVote (mMeet M (gTm g)) g) (pB (List.eraseIdx (nB P) i) (nLo P))))), .int (nNow P)])], w1155, wm, w2156, fz1154, pre, post, wr, wq]) (st1 := []) rfl rfl ?_
            have h160 := ML.mono h157 hML
            have h161 := MsgIn.mono h157 hg
            have h162 := StIn.mono h157 k610
            have h163 := BL.mono h157 hB15
            have h164 := StIn.mono h157 hsp38
            have h165 := StIn.mono h157 hsp151
            have h166 := IsMach.mono h157 hM152
            have hpm167 : (pMsg (List.length mas) (mMeet M (gTm g)) (pB (List.eraseIdx (nB P) i) (nLo P)) g) = (leadIf (List.length mas) (mVote (mMeet M (gTm g)) g) (pB (List.eraseIdx (nB P) i) (nLo P))) := (if_neg (by omega)).trans ((if_pos h71_1).trans (if_pos ⟨by simpa using c69, c93, c117⟩))
            have h168 : IsMach E fz1154 m (Prod.fst (pMsg (List.length mas) (mMeet M (gTm g)) (pB (List.eraseIdx (nB P) i) (nLo P)) g)) w1155 := by rw [hpm167]; exact h158
            have h169 : BL E fz1154 lb (Prod.fst (Prod.snd (pMsg (List.length mas) (mMeet M (gTm g)) (pB (List.eraseIdx (nB P) i) (nLo P)) g))) w2156 := by rw [hpm167]; exact h159
            refine g_cs (cs1 := [[(n, ob 1 [.ref lm, .ref lb, .ref lr, .int (Prod.snd (Prod.snd (pMsg (List.length mas) (mMeet M (gTm g)) (pB (List.eraseIdx (nB P) i) (nLo P)) g))), .int (nNow P)])], w1155, wm, w2156, fz1154, pre, post, wr, wq]) (by rw [hpm167]) ?_
            refine g_goto hX (pc := 158) (tgt := 197) dX2_deliver_158 rfl ?_
            refine g_aload_n hX (pc := 197) dX2_deliver_197 2 rfl ?_
            refine g_aload_n hX (pc := 198) dX2_deliver_198 0 rfl ?_
            refine g_callV hX (pc := 199) kX2_settle (mt_Net_settle E l n lm lb lr (Prod.snd (Prod.snd (pMsg (List.length mas) (mMeet M (gTm g)) (pB (List.eraseIdx (nB P) i) (nLo P)) g))) (nNow P) mas wm m (Prod.fst (pMsg (List.length mas) (mMeet M (gTm g)) (pB (List.eraseIdx (nB P) i) (nLo P)) g)) w1155 fz1154 (nR P) wr wq (b + mLeads (List.length mas) (mMeet M (gTm g)) g) hAm h168 hRq (hmx.1) (p3) (by omega)) q1139 fcX2 (sp_mem (i := 0) rfl) [0, 1, 0, 4, 4, 1] rfl rfl rfl (Nat.le_of_ble_eq_true rfl) (Nat.le_of_ble_eq_true rfl) (Nat.le_of_ble_eq_true rfl) (by omega) (by omega) dX2_deliver_199 (fun v w1 hp => ?_)
            obtain ⟨w1170, w2171, h172, h173, rfl, rfl⟩ := hp
            refine g_nrm (cs1 := [[(n, ob 1 [.ref lm, .ref lb, .ref lr, .int (Prod.snd (Prod.snd (pMsg (List.length mas) (mMeet M (gTm g)) (pB (List.eraseIdx (nB P) i) (nLo P)) g))), .int (nNow P)])], wm, w1170, wr, w2171, fz1154, w2156, pre, post]) (st1 := []) rfl rfl ?_
            refine g_aload_n hX (pc := 202) dX2_deliver_202 1 rfl ?_
            refine g_getNm hX (pc := 203) fcX13 (sp_in 5 rfl (h157 _ k15)) 2 (by decide) q1061 rfl (v := .int (nI (gT g))) rfl dX2_deliver_203 ?_
            have ht174 : List.length (nM P) = List.length mas := hml.symm
            refine g_cs (cs1 := [[(n, ob 1 [.ref lm, .ref lb, .ref lr, .int (Prod.snd (Prod.snd (pMsg (List.length (nM P)) (mMeet M (gTm g)) (pB (List.eraseIdx (nB P) i) (nLo P)) g))), .int (nNow P)])], wm, w1170, wr, w2171, fz1154, w2156, pre, post]) (by rw [ht174]) ?_
            have h175 : IsMach E fz1154 m (Prod.fst (pMsg (List.length (nM P)) (mMeet M (gTm g)) (pB (List.eraseIdx (nB P) i) (nLo P)) g)) w1155 := by rw [ht174]; exact h168
            have h176 : BL E fz1154 lb (Prod.fst (Prod.snd (pMsg (List.length (nM P)) (mMeet M (gTm g)) (pB (List.eraseIdx (nB P) i) (nLo P)) g))) w2156 := by rw [ht174]; exact h169
            have h177 : IsMach E fz1154 m (Prod.fst (settle (List.length (nM P)) (nNow P) (Prod.fst (pMsg (List.length (nM P)) (mMeet M (gTm g)) (pB (List.eraseIdx (nB P) i) (nLo P)) g)) (nR P))) w1170 := by rw [ht174]; exact h172
            have h178 : RL E lr (Prod.snd (settle (List.length (nM P)) (nNow P) (Prod.fst (pMsg (List.length (nM P)) (mMeet M (gTm g)) (pB (List.eraseIdx (nB P) i) (nLo P)) g)) (nR P))) wr w2171 := by rw [ht174]; exact h173
            refine g_pk [7, 2, 6] rfl ?_
            refine g_cs (cs1 := [pre, w1170, post, [(n, ob 1 [.ref lm, .ref lb, .ref lr, .int (Prod.snd (Prod.snd (pMsg (List.length (nM P)) (mMeet M (gTm g)) (pB (List.eraseIdx (nB P) i) (nLo P)) g))), .int (nNow P)])], wm, wr, w2171, fz1154, w2156]) rfl ?_
            refine g_fl (cs1 := [(pre ++ (w1170 ++ (post))), [(n, ob 1 [.ref lm, .ref lb, .ref lr, .int (Prod.snd (Prod.snd (pMsg (List.length (nM P)) (mMeet M (gTm g)) (pB (List.eraseIdx (nB P) i) (nLo P)) g))), .int (nNow P)])], wm, wr, w2171, fz1154, w2156]) (by simp only [List.flatten_cons, List.flatten_nil, List.cons_append, List.append_assoc, List.nil_append, List.append_nil]) ?_
            have hML179 : ML E fz1154 lm (List.set (nM P) (gT g) (Prod.fst (settle (List.length (nM P)) (nNow P) (Prod.fst (pMsg (List.length (nM P)) (mMeet M (gTm g)) (pB (List.eraseIdx (nB P) i) (nLo P)) g)) (nR P)))) wm (pre ++ (w1170 ++ (post))) := hMc _ _ _ h157 h177
            generalize (pre ++ (w1170 ++ (post))) = wM180 at hML179 ⊢
            refine g_pk [1, 1, 0, 3, 0, 0, 0] rfl ?_
            refine g_cs (cs1 := [[(n, ob 1 [.ref lm, .ref lb, .ref lr, .int (Prod.snd (Prod.snd (pMsg (List.length (nM P)) (mMeet M (gTm g)) (pB (List.eraseIdx (nB P) i) (nLo P)) g))), .int (nNow P)])], wm, wM180, w2156, wr, w2171, fz1154]) rfl ?_
            refine g_iret hX (pc := 206) hR ?_ (by omega) (by omega) dX2_deliver_206
            rw [nDel_up hM c18]
            exact ⟨_, _, _, _, h157, hML179, h176, h178, rfl, rfl⟩
    · refine g_tableIn hX (pc := 71) (tgt := 191) (off := 120) dX2_deliver_71 (by rw [h71_2]; decide) (by rw [h71_2]; decide) (by rw [h71_2]; rfl) rfl ?_
      refine g_aload_n hX (pc := 191) dX2_deliver_191 2 rfl ?_
      refine g_aload_n hX (pc := 192) dX2_deliver_192 0 rfl ?_
      refine g_aload_n hX (pc := 193) dX2_deliver_193 1 rfl ?_
      refine g_callV hX (pc := 194) kX2_follow (mt_Net_follow E l n lm lb lr (nNow P) m (mMeet M (gTm g)) wk40 fz (pB (List.eraseIdx (nB P) i) (nLo P)) w113 a g h42 hB15 hg (hn30) (by omega) (by omega) (by omega) (by omega) (by omega) (by omega) (by omega) (by omega) (by omega)) q1219 fcX2 (sp_mem (i := 1) rfl) [1, 0, 1, 1] rfl rfl rfl (Nat.le_of_ble_eq_true rfl) (Nat.le_of_ble_eq_true rfl) (Nat.le_of_ble_eq_true rfl) (by omega) (by omega) dX2_deliver_194 (fun v w1 hp => ?_)
      obtain ⟨fz1181, w1182, w2183, h184, h185, h186, rfl, rfl⟩ := hp
      refine g_nrm (cs1 := [[(n, ob 1 [.ref lm, .ref lb, .ref lr, .int (Prod.snd (Prod.snd (pFollow (mMeet M (gTm g)) (pB (List.eraseIdx (nB P) i) (nLo P)) g))), .int (nNow P)])], w1182, w2183, fz1181, wm, pre, post, wr, wq]) (st1 := []) rfl rfl ?_
      have h187 := ML.mono h184 hML
      have h188 := MsgIn.mono h184 hg
      have h189 := StIn.mono h184 k610
      have h190 := BL.mono h184 hB15
      have h191 := StIn.mono h184 hsp38
      have h192 := IsMach.mono h184 h42
      have hpm193 : (pMsg (List.length mas) (mMeet M (gTm g)) (pB (List.eraseIdx (nB P) i) (nLo P)) g) = (pFollow (mMeet M (gTm g)) (pB (List.eraseIdx (nB P) i) (nLo P)) g) := (if_neg (by omega)).trans ((if_neg (by omega)).trans (if_neg (by omega)))
      have h194 : IsMach E fz1181 m (Prod.fst (pMsg (List.length mas) (mMeet M (gTm g)) (pB (List.eraseIdx (nB P) i) (nLo P)) g)) w1182 := by rw [hpm193]; exact h185
      have h195 : BL E fz1181 lb (Prod.fst (Prod.snd (pMsg (List.length mas) (mMeet M (gTm g)) (pB (List.eraseIdx (nB P) i) (nLo P)) g))) w2183 := by rw [hpm193]; exact h186
      refine g_cs (cs1 := [[(n, ob 1 [.ref lm, .ref lb, .ref lr, .int (Prod.snd (Prod.snd (pMsg (List.length mas) (mMeet M (gTm g)) (pB (List.eraseIdx (nB P) i) (nLo P)) g))), .int (nNow P)])], w1182, w2183, fz1181, wm, pre, post, wr, wq]) (by rw [hpm193]) ?_
      refine g_aload_n hX (pc := 197) dX2_deliver_197 2 rfl ?_
      refine g_aload_n hX (pc := 198) dX2_deliver_198 0 rfl ?_
      refine g_callV hX (pc := 199) kX2_settle (mt_Net_settle E l n lm lb lr (Prod.snd (Prod.snd (pMsg (List.length mas) (mMeet M (gTm g)) (pB (List.eraseIdx (nB P) i) (nLo P)) g))) (nNow P) mas wm m (Prod.fst (pMsg (List.length mas) (mMeet M (gTm g)) (pB (List.eraseIdx (nB P) i) (nLo P)) g)) w1182 fz1181 (nR P) wr wq (b + mLeads (List.length mas) (mMeet M (gTm g)) g) hAm h194 hRq (hmx.1) (p3) (by omega)) q1139 fcX2 (sp_mem (i := 0) rfl) [0, 3, 0, 4, 4, 1] rfl rfl rfl (Nat.le_of_ble_eq_true rfl) (Nat.le_of_ble_eq_true rfl) (Nat.le_of_ble_eq_true rfl) (by omega) (by omega) dX2_deliver_199 (fun v w1 hp => ?_)
      obtain ⟨w1196, w2197, h198, h199, rfl, rfl⟩ := hp
      refine g_nrm (cs1 := [[(n, ob 1 [.ref lm, .ref lb, .ref lr, .int (Prod.snd (Prod.snd (pMsg (List.length mas) (mMeet M (gTm g)) (pB (List.eraseIdx (nB P) i) (nLo P)) g))), .int (nNow P)])], wm, w1196, wr, w2197, fz1181, w2183, pre, post]) (st1 := []) rfl rfl ?_
      refine g_aload_n hX (pc := 202) dX2_deliver_202 1 rfl ?_
      refine g_getNm hX (pc := 203) fcX13 (sp_in 5 rfl (h184 _ k15)) 2 (by decide) q1061 rfl (v := .int (nI (gT g))) rfl dX2_deliver_203 ?_
      have ht200 : List.length (nM P) = List.length mas := hml.symm
      refine g_cs (cs1 := [[(n, ob 1 [.ref lm, .ref lb, .ref lr, .int (Prod.snd (Prod.snd (pMsg (List.length (nM P)) (mMeet M (gTm g)) (pB (List.eraseIdx (nB P) i) (nLo P)) g))), .int (nNow P)])], wm, w1196, wr, w2197, fz1181, w2183, pre, post]) (by rw [ht200]) ?_
      have h201 : IsMach E fz1181 m (Prod.fst (pMsg (List.length (nM P)) (mMeet M (gTm g)) (pB (List.eraseIdx (nB P) i) (nLo P)) g)) w1182 := by rw [ht200]; exact h194
      have h202 : BL E fz1181 lb (Prod.fst (Prod.snd (pMsg (List.length (nM P)) (mMeet M (gTm g)) (pB (List.eraseIdx (nB P) i) (nLo P)) g))) w2183 := by rw [ht200]; exact h195
      have h203 : IsMach E fz1181 m (Prod.fst (settle (List.length (nM P)) (nNow P) (Prod.fst (pMsg (List.length (nM P)) (mMeet M (gTm g)) (pB (List.eraseIdx (nB P) i) (nLo P)) g)) (nR P))) w1196 := by rw [ht200]; exact h198
      have h204 : RL E lr (Prod.snd (settle (List.length (nM P)) (nNow P) (Prod.fst (pMsg (List.length (nM P)) (mMeet M (gTm g)) (pB (List.eraseIdx (nB P) i) (nLo P)) g)) (nR P))) wr w2197 := by rw [ht200]; exact h199
      refine g_pk [7, 2, 6] rfl ?_
      refine g_cs (cs1 := [pre, w1196, post, [(n, ob 1 [.ref lm, .ref lb, .ref lr, .int (Prod.snd (Prod.snd (pMsg (List.length (nM P)) (mMeet M (gTm g)) (pB (List.eraseIdx (nB P) i) (nLo P)) g))), .int (nNow P)])], wm, wr, w2197, fz1181, w2183]) rfl ?_
      refine g_fl (cs1 := [(pre ++ (w1196 ++ (post))), [(n, ob 1 [.ref lm, .ref lb, .ref lr, .int (Prod.snd (Prod.snd (pMsg (List.length (nM P)) (mMeet M (gTm g)) (pB (List.eraseIdx (nB P) i) (nLo P)) g))), .int (nNow P)])], wm, wr, w2197, fz1181, w2183]) (by simp only [List.flatten_cons, List.flatten_nil, List.cons_append, List.append_assoc, List.nil_append, List.append_nil]) ?_
      have hML205 : ML E fz1181 lm (List.set (nM P) (gT g) (Prod.fst (settle (List.length (nM P)) (nNow P) (Prod.fst (pMsg (List.length (nM P)) (mMeet M (gTm g)) (pB (List.eraseIdx (nB P) i) (nLo P)) g)) (nR P)))) wm (pre ++ (w1196 ++ (post))) := hMc _ _ _ h184 h203
      generalize (pre ++ (w1196 ++ (post))) = wM206 at hML205 ⊢
      refine g_pk [1, 1, 0, 3, 0, 0, 0] rfl ?_
      refine g_cs (cs1 := [[(n, ob 1 [.ref lm, .ref lb, .ref lr, .int (Prod.snd (Prod.snd (pMsg (List.length (nM P)) (mMeet M (gTm g)) (pB (List.eraseIdx (nB P) i) (nLo P)) g))), .int (nNow P)])], wm, wM206, w2183, wr, w2197, fz1181]) rfl ?_
      refine g_iret hX (pc := 206) hR ?_ (by omega) (by omega) dX2_deliver_206
      rw [nDel_up hM c18]
      exact ⟨_, _, _, _, h184, hML205, h202, h204, rfl, rfl⟩
    · refine g_tableIn hX (pc := 71) (tgt := 161) (off := 90) dX2_deliver_71 (by rw [h71_3]; decide) (by rw [h71_3]; decide) (by rw [h71_3]; rfl) rfl ?_
      refine g_aload_n hX (pc := 161) dX2_deliver_161 0 rfl ?_
      obtain ⟨fs207, hm208⟩ := IsMach.head h42
      refine g_callV hX (pc := 162) kX9_isLeader (mt_Machine_isLeaderM E l m (mMeet M (gTm g)) wk40 fz h42) q225 fcX9 (sp_in 0 rfl hm208) [0] rfl rfl rfl (Nat.le_of_ble_eq_true rfl) (Nat.le_of_ble_eq_true rfl) (Nat.le_of_ble_eq_true rfl) (by omega) (by omega) dX2_deliver_162 (fun v w1 hp => ?_)
      obtain ⟨rfl, rfl⟩ := hp
      refine g_nrm (cs1 := [wk40, [(n, ob 1 [.ref lm, .ref lb, .ref lr, .int (Prod.snd (pB (List.eraseIdx (nB P) i) (nLo P))), .int (nNow P)])], wm, w113, fz, pre, post, wr, wq]) (st1 := [.int (if mR (mMeet M (gTm g)) = 3 then 1 else 0)]) rfl rfl ?_
      refine g_if_eq hX (pc := 165) (tgt := 197) dX2_deliver_165 rfl (fun c209_ => ?_) (fun c209_ => ?_)
      · have c209 := z10.mp c209_
        have hpm210 : (pMsg (List.length mas) (mMeet M (gTm g)) (pB (List.eraseIdx (nB P) i) (nLo P)) g) = (en4 (mMeet M (gTm g)) (pB (List.eraseIdx (nB P) i) (nLo P))) := (if_neg (by omega)).trans ((if_neg (by omega)).trans ((if_pos h71_3).trans (by rw [show pHasIf (mMeet M (gTm g)) g = (mMeet M (gTm g)) from if_neg (fun z => c209 z.1)])))
        have h211 : IsMach E fz m (Prod.fst (pMsg (List.length mas) (mMeet M (gTm g)) (pB (List.eraseIdx (nB P) i) (nLo P)) g)) wk40 := by rw [hpm210]; exact h42
        have h212 : BL E fz lb (Prod.fst (Prod.snd (pMsg (List.length mas) (mMeet M (gTm g)) (pB (List.eraseIdx (nB P) i) (nLo P)) g))) w113 := by rw [hpm210]; exact hB15
        refine g_cs (cs1 := [wk40, [(n, ob 1 [.ref lm, .ref lb, .ref lr, .int (Prod.snd (Prod.snd (pMsg (List.length mas) (mMeet M (gTm g)) (pB (List.eraseIdx (nB P) i) (nLo P)) g))), .int (nNow P)])], wm, w113, fz, pre, post, wr, wq]) (by rw [hpm210]) ?_
        refine g_aload_n hX (pc := 197) dX2_deliver_197 2 rfl ?_
        refine g_aload_n hX (pc := 198) dX2_deliver_198 0 rfl ?_
        refine g_callV hX (pc := 199) kX2_settle (mt_Net_settle E l n lm lb lr (Prod.snd (Prod.snd (pMsg (List.length mas) (mMeet M (gTm g)) (pB (List.eraseIdx (nB P) i) (nLo P)) g))) (nNow P) mas wm m (Prod.fst (pMsg (List.length mas) (mMeet M (gTm g)) (pB (List.eraseIdx (nB P) i) (nLo P)) g)) wk40 fz (nR P) wr wq (b + mLeads (List.length mas) (mMeet M (gTm g)) g) hAm h211 hRq (hmx.1) (p3) (by omega)) q1139 fcX2 (sp_mem (i := 1) rfl) [1, 1, 0, 4, 4, 1] rfl rfl rfl (Nat.le_of_ble_eq_true rfl) (Nat.le_of_ble_eq_true rfl) (Nat.le_of_ble_eq_true rfl) (by omega) (by omega) dX2_deliver_199 (fun v w1 hp => ?_)
        obtain ⟨w1213, w2214, h215, h216, rfl, rfl⟩ := hp
        refine g_nrm (cs1 := [[(n, ob 1 [.ref lm, .ref lb, .ref lr, .int (Prod.snd (Prod.snd (pMsg (List.length mas) (mMeet M (gTm g)) (pB (List.eraseIdx (nB P) i) (nLo P)) g))), .int (nNow P)])], wm, w1213, wr, w2214, fz, w113, pre, post]) (st1 := []) rfl rfl ?_
        refine g_aload_n hX (pc := 202) dX2_deliver_202 1 rfl ?_
        refine g_getNm hX (pc := 203) fcX13 (sp_in 5 rfl k15) 2 (by decide) q1061 rfl (v := .int (nI (gT g))) rfl dX2_deliver_203 ?_
        have ht217 : List.length (nM P) = List.length mas := hml.symm
        refine g_cs (cs1 := [[(n, ob 1 [.ref lm, .ref lb, .ref lr, .int (Prod.snd (Prod.snd (pMsg (List.length (nM P)) (mMeet M (gTm g)) (pB (List.eraseIdx (nB P) i) (nLo P)) g))), .int (nNow P)])], wm, w1213, wr, w2214, fz, w113, pre, post]) (by rw [ht217]) ?_
        have h218 : IsMach E fz m (Prod.fst (pMsg (List.length (nM P)) (mMeet M (gTm g)) (pB (List.eraseIdx (nB P) i) (nLo P)) g)) wk40 := by rw [ht217]; exact h211
        have h219 : BL E fz lb (Prod.fst (Prod.snd (pMsg (List.length (nM P)) (mMeet M (gTm g)) (pB (List.eraseIdx (nB P) i) (nLo P)) g))) w113 := by rw [ht217]; exact h212
        have h220 : IsMach E fz m (Prod.fst (settle (List.length (nM P)) (nNow P) (Prod.fst (pMsg (List.length (nM P)) (mMeet M (gTm g)) (pB (List.eraseIdx (nB P) i) (nLo P)) g)) (nR P))) w1213 := by rw [ht217]; exact h215
        have h221 : RL E lr (Prod.snd (settle (List.length (nM P)) (nNow P) (Prod.fst (pMsg (List.length (nM P)) (mMeet M (gTm g)) (pB (List.eraseIdx (nB P) i) (nLo P)) g)) (nR P))) wr w2214 := by rw [ht217]; exact h216
        refine g_pk [7, 2, 6] rfl ?_
        refine g_cs (cs1 := [pre, w1213, post, [(n, ob 1 [.ref lm, .ref lb, .ref lr, .int (Prod.snd (Prod.snd (pMsg (List.length (nM P)) (mMeet M (gTm g)) (pB (List.eraseIdx (nB P) i) (nLo P)) g))), .int (nNow P)])], wm, wr, w2214, fz, w113]) rfl ?_
        refine g_fl (cs1 := [(pre ++ (w1213 ++ (post))), [(n, ob 1 [.ref lm, .ref lb, .ref lr, .int (Prod.snd (Prod.snd (pMsg (List.length (nM P)) (mMeet M (gTm g)) (pB (List.eraseIdx (nB P) i) (nLo P)) g))), .int (nNow P)])], wm, wr, w2214, fz, w113]) (by simp only [List.flatten_cons, List.flatten_nil, List.cons_append, List.append_assoc, List.nil_append, List.append_nil]) ?_
        have hML222 : ML E fz lm (List.set (nM P) (gT g) (Prod.fst (settle (List.length (nM P)) (nNow P) (Prod.fst (pMsg (List.length (nM P)) (mMeet M (gTm g)) (pB (List.eraseIdx (nB P) i) (nLo P)) g)) (nR P)))) wm (pre ++ (w1213 ++ (post))) := hMc _ _ _ Ext.rfl' h220
        generalize (pre ++ (w1213 ++ (post))) = wM223 at hML222 ⊢
        refine g_pk [1, 1, 0, 3, 0, 0, 0] rfl ?_
        refine g_cs (cs1 := [[(n, ob 1 [.ref lm, .ref lb, .ref lr, .int (Prod.snd (Prod.snd (pMsg (List.length (nM P)) (mMeet M (gTm g)) (pB (List.eraseIdx (nB P) i) (nLo P)) g))), .int (nNow P)])], wm, wM223, w113, wr, w2214, fz]) rfl ?_
        refine g_iret hX (pc := 206) hR ?_ (by omega) (by omega) dX2_deliver_206
        rw [nDel_up hM c18]
        exact ⟨_, _, _, _, Ext.rfl', hML222, h219, h221, rfl, rfl⟩
      · have c209 := z10n.mp c209_
        obtain ⟨rn224, rk225, rl226, rs227, rst228, la229, sp230, hpk231, hpl232⟩ := h42.peek
        refine g_aload_n hX (pc := 168) dX2_deliver_168 1 rfl ?_
        refine g_getNm hX (pc := 169) fcX13 (sp_in 4 rfl k15) 3 (by decide) q1063 rfl (v := .int (gTm g)) rfl dX2_deliver_169 ?_
        refine g_aload_n hX (pc := 172) dX2_deliver_172 0 rfl ?_
        refine g_getNm hX (pc := 173) fcX9 (sp_in 0 rfl hpk231) 3 (by decide) q933 rfl (v := .ref rl226) rfl dX2_deliver_173 ?_
        refine g_getNm hX (pc := 176) fcX10 (sp_in 0 rfl hpl232) 1 (by decide) q844 rfl (v := .int (lT (mL (mMeet M (gTm g))))) rfl dX2_deliver_176 ?_
        refine g_icmp_ne hX (pc := 179) (tgt := 197) dX2_deliver_179 rfl (fun c233 => ?_) (fun c233 => ?_)
        · have hpm234 : (pMsg (List.length mas) (mMeet M (gTm g)) (pB (List.eraseIdx (nB P) i) (nLo P)) g) = (en4 (mMeet M (gTm g)) (pB (List.eraseIdx (nB P) i) (nLo P))) := (if_neg (by omega)).trans ((if_neg (by omega)).trans ((if_pos h71_3).trans (by rw [show pHasIf (mMeet M (gTm g)) g = (mMeet M (gTm g)) from if_neg (fun z => c233 z.2)])))
          have h235 : IsMach E fz m (Prod.fst (pMsg (List.length mas) (mMeet M (gTm g)) (pB (List.eraseIdx (nB P) i) (nLo P)) g)) wk40 := by rw [hpm234]; exact h42
          have h236 : BL E fz lb (Prod.fst (Prod.snd (pMsg (List.length mas) (mMeet M (gTm g)) (pB (List.eraseIdx (nB P) i) (nLo P)) g))) w113 := by rw [hpm234]; exact hB15
          refine g_cs (cs1 := [wk40, [(n, ob 1 [.ref lm, .ref lb, .ref lr, .int (Prod.snd (Prod.snd (pMsg (List.length mas) (mMeet M (gTm g)) (pB (List.eraseIdx (nB P) i) (nLo P)) g))), .int (nNow P)])], wm, w113, fz, pre, post, wr, wq]) (by rw [hpm234]) ?_
          refine g_aload_n hX (pc := 197) dX2_deliver_197 2 rfl ?_
          refine g_aload_n hX (pc := 198) dX2_deliver_198 0 rfl ?_
          refine g_callV hX (pc := 199) kX2_settle (mt_Net_settle E l n lm lb lr (Prod.snd (Prod.snd (pMsg (List.length mas) (mMeet M (gTm g)) (pB (List.eraseIdx (nB P) i) (nLo P)) g))) (nNow P) mas wm m (Prod.fst (pMsg (List.length mas) (mMeet M (gTm g)) (pB (List.eraseIdx (nB P) i) (nLo P)) g)) wk40 fz (nR P) wr wq (b + mLeads (List.length mas) (mMeet M (gTm g)) g) hAm h235 hRq (hmx.1) (p3) (by omega)) q1139 fcX2 (sp_mem (i := 1) rfl) [1, 1, 0, 4, 4, 1] rfl rfl rfl (Nat.le_of_ble_eq_true rfl) (Nat.le_of_ble_eq_true rfl) (Nat.le_of_ble_eq_true rfl) (by omega) (by omega) dX2_deliver_199 (fun v w1 hp => ?_)
          obtain ⟨w1237, w2238, h239, h240, rfl, rfl⟩ := hp
          refine g_nrm (cs1 := [[(n, ob 1 [.ref lm, .ref lb, .ref lr, .int (Prod.snd (Prod.snd (pMsg (List.length mas) (mMeet M (gTm g)) (pB (List.eraseIdx (nB P) i) (nLo P)) g))), .int (nNow P)])], wm, w1237, wr, w2238, fz, w113, pre, post]) (st1 := []) rfl rfl ?_
          refine g_aload_n hX (pc := 202) dX2_deliver_202 1 rfl ?_
          refine g_getNm hX (pc := 203) fcX13 (sp_in 5 rfl k15) 2 (by decide) q1061 rfl (v := .int (nI (gT g))) rfl dX2_deliver_203 ?_
          have ht241 : List.length (nM P) = List.length mas := hml.symm
          refine g_cs (cs1 := [[(n, ob 1 [.ref lm, .ref lb, .ref lr, .int (Prod.snd (Prod.snd (pMsg (List.length (nM P)) (mMeet M (gTm g)) (pB (List.eraseIdx (nB P) i) (nLo P)) g))), .int (nNow P)])], wm, w1237, wr, w2238, fz, w113, pre, post]) (by rw [ht241]) ?_
          have h242 : IsMach E fz m (Prod.fst (pMsg (List.length (nM P)) (mMeet M (gTm g)) (pB (List.eraseIdx (nB P) i) (nLo P)) g)) wk40 := by rw [ht241]; exact h235
          have h243 : BL E fz lb (Prod.fst (Prod.snd (pMsg (List.length (nM P)) (mMeet M (gTm g)) (pB (List.eraseIdx (nB P) i) (nLo P)) g))) w113 := by rw [ht241]; exact h236
          have h244 : IsMach E fz m (Prod.fst (settle (List.length (nM P)) (nNow P) (Prod.fst (pMsg (List.length (nM P)) (mMeet M (gTm g)) (pB (List.eraseIdx (nB P) i) (nLo P)) g)) (nR P))) w1237 := by rw [ht241]; exact h239
          have h245 : RL E lr (Prod.snd (settle (List.length (nM P)) (nNow P) (Prod.fst (pMsg (List.length (nM P)) (mMeet M (gTm g)) (pB (List.eraseIdx (nB P) i) (nLo P)) g)) (nR P))) wr w2238 := by rw [ht241]; exact h240
          refine g_pk [7, 2, 6] rfl ?_
          refine g_cs (cs1 := [pre, w1237, post, [(n, ob 1 [.ref lm, .ref lb, .ref lr, .int (Prod.snd (Prod.snd (pMsg (List.length (nM P)) (mMeet M (gTm g)) (pB (List.eraseIdx (nB P) i) (nLo P)) g))), .int (nNow P)])], wm, wr, w2238, fz, w113]) rfl ?_
          refine g_fl (cs1 := [(pre ++ (w1237 ++ (post))), [(n, ob 1 [.ref lm, .ref lb, .ref lr, .int (Prod.snd (Prod.snd (pMsg (List.length (nM P)) (mMeet M (gTm g)) (pB (List.eraseIdx (nB P) i) (nLo P)) g))), .int (nNow P)])], wm, wr, w2238, fz, w113]) (by simp only [List.flatten_cons, List.flatten_nil, List.cons_append, List.append_assoc, List.nil_append, List.append_nil]) ?_
          have hML246 : ML E fz lm (List.set (nM P) (gT g) (Prod.fst (settle (List.length (nM P)) (nNow P) (Prod.fst (pMsg (List.length (nM P)) (mMeet M (gTm g)) (pB (List.eraseIdx (nB P) i) (nLo P)) g)) (nR P)))) wm (pre ++ (w1237 ++ (post))) := hMc _ _ _ Ext.rfl' h244
          generalize (pre ++ (w1237 ++ (post))) = wM247 at hML246 ⊢
          refine g_pk [1, 1, 0, 3, 0, 0, 0] rfl ?_
          refine g_cs (cs1 := [[(n, ob 1 [.ref lm, .ref lb, .ref lr, .int (Prod.snd (Prod.snd (pMsg (List.length (nM P)) (mMeet M (gTm g)) (pB (List.eraseIdx (nB P) i) (nLo P)) g))), .int (nNow P)])], wm, wM247, w113, wr, w2238, fz]) rfl ?_
          refine g_iret hX (pc := 206) hR ?_ (by omega) (by omega) dX2_deliver_206
          rw [nDel_up hM c18]
          exact ⟨_, _, _, _, Ext.rfl', hML246, h243, h245, rfl, rfl⟩
        · refine g_aload_n hX (pc := 182) dX2_deliver_182 2 rfl ?_
          refine g_aload_n hX (pc := 183) dX2_deliver_183 0 rfl ?_
          refine g_aload_n hX (pc := 184) dX2_deliver_184 1 rfl ?_
          refine g_callV hX (pc := 185) kX2_has (mt_Net_has E l n lm lb lr (Prod.snd (pB (List.eraseIdx (nB P) i) (nLo P))) (nNow P) m (mMeet M (gTm g)) wk40 fz a g h42 hg (by omega) (⟨by have := o11 (gF g) (by omega); omega, by have := o11 (gF g) (by omega); omega⟩) (by omega) (by omega)) q1215 fcX2 (sp_mem (i := 1) rfl) [1, 0, 2] rfl rfl rfl (Nat.le_of_ble_eq_true rfl) (Nat.le_of_ble_eq_true rfl) (Nat.le_of_ble_eq_true rfl) (by omega) (by omega) dX2_deliver_185 (fun v w1 hp => ?_)
          obtain ⟨w1248, h249, rfl, rfl⟩ := hp
          refine g_nrm (cs1 := [[(n, ob 1 [.ref lm, .ref lb, .ref lr, .int (Prod.snd (pB (List.eraseIdx (nB P) i) (nLo P))), .int (nNow P)])], w1248, fz, wm, w113, pre, post, wr, wq]) (st1 := []) rfl rfl ?_
          have hpm250 : (pMsg (List.length mas) (mMeet M (gTm g)) (pB (List.eraseIdx (nB P) i) (nLo P)) g) = (en4 (pHas (mMeet M (gTm g)) g) (pB (List.eraseIdx (nB P) i) (nLo P))) := (if_neg (by omega)).trans ((if_neg (by omega)).trans ((if_pos h71_3).trans (by rw [show pHasIf (mMeet M (gTm g)) g = pHas (mMeet M (gTm g)) g from if_pos ⟨c209, c233⟩])))
          have h251 : IsMach E fz m (Prod.fst (pMsg (List.length mas) (mMeet M (gTm g)) (pB (List.eraseIdx (nB P) i) (nLo P)) g)) w1248 := by rw [hpm250]; exact h249
          have h252 : BL E fz lb (Prod.fst (Prod.snd (pMsg (List.length mas) (mMeet M (gTm g)) (pB (List.eraseIdx (nB P) i) (nLo P)) g))) w113 := by rw [hpm250]; exact hB15
          refine g_cs (cs1 := [[(n, ob 1 [.ref lm, .ref lb, .ref lr, .int (Prod.snd (Prod.snd (pMsg (List.length mas) (mMeet M (gTm g)) (pB (List.eraseIdx (nB P) i) (nLo P)) g))), .int (nNow P)])], w1248, fz, wm, w113, pre, post, wr, wq]) (by rw [hpm250]) ?_
          refine g_goto hX (pc := 188) (tgt := 197) dX2_deliver_188 rfl ?_
          refine g_aload_n hX (pc := 197) dX2_deliver_197 2 rfl ?_
          refine g_aload_n hX (pc := 198) dX2_deliver_198 0 rfl ?_
          refine g_callV hX (pc := 199) kX2_settle (mt_Net_settle E l n lm lb lr (Prod.snd (Prod.snd (pMsg (List.length mas) (mMeet M (gTm g)) (pB (List.eraseIdx (nB P) i) (nLo P)) g))) (nNow P) mas wm m (Prod.fst (pMsg (List.length mas) (mMeet M (gTm g)) (pB (List.eraseIdx (nB P) i) (nLo P)) g)) w1248 fz (nR P) wr wq (b + mLeads (List.length mas) (mMeet M (gTm g)) g) hAm h251 hRq (hmx.1) (p3) (by omega)) q1139 fcX2 (sp_mem (i := 0) rfl) [0, 2, 0, 4, 4, 0] rfl rfl rfl (Nat.le_of_ble_eq_true rfl) (Nat.le_of_ble_eq_true rfl) (Nat.le_of_ble_eq_true rfl) (by omega) (by omega) dX2_deliver_199 (fun v w1 hp => ?_)
          obtain ⟨w1253, w2254, h255, h256, rfl, rfl⟩ := hp
          refine g_nrm (cs1 := [[(n, ob 1 [.ref lm, .ref lb, .ref lr, .int (Prod.snd (Prod.snd (pMsg (List.length mas) (mMeet M (gTm g)) (pB (List.eraseIdx (nB P) i) (nLo P)) g))), .int (nNow P)])], wm, w1253, wr, w2254, fz, w113, pre, post]) (st1 := []) rfl rfl ?_
          refine g_aload_n hX (pc := 202) dX2_deliver_202 1 rfl ?_
          refine g_getNm hX (pc := 203) fcX13 (sp_in 5 rfl k15) 2 (by decide) q1061 rfl (v := .int (nI (gT g))) rfl dX2_deliver_203 ?_
          have ht257 : List.length (nM P) = List.length mas := hml.symm
          refine g_cs (cs1 := [[(n, ob 1 [.ref lm, .ref lb, .ref lr, .int (Prod.snd (Prod.snd (pMsg (List.length (nM P)) (mMeet M (gTm g)) (pB (List.eraseIdx (nB P) i) (nLo P)) g))), .int (nNow P)])], wm, w1253, wr, w2254, fz, w113, pre, post]) (by rw [ht257]) ?_
          have h258 : IsMach E fz m (Prod.fst (pMsg (List.length (nM P)) (mMeet M (gTm g)) (pB (List.eraseIdx (nB P) i) (nLo P)) g)) w1248 := by rw [ht257]; exact h251
          have h259 : BL E fz lb (Prod.fst (Prod.snd (pMsg (List.length (nM P)) (mMeet M (gTm g)) (pB (List.eraseIdx (nB P) i) (nLo P)) g))) w113 := by rw [ht257]; exact h252
          have h260 : IsMach E fz m (Prod.fst (settle (List.length (nM P)) (nNow P) (Prod.fst (pMsg (List.length (nM P)) (mMeet M (gTm g)) (pB (List.eraseIdx (nB P) i) (nLo P)) g)) (nR P))) w1253 := by rw [ht257]; exact h255
          have h261 : RL E lr (Prod.snd (settle (List.length (nM P)) (nNow P) (Prod.fst (pMsg (List.length (nM P)) (mMeet M (gTm g)) (pB (List.eraseIdx (nB P) i) (nLo P)) g)) (nR P))) wr w2254 := by rw [ht257]; exact h256
          refine g_pk [7, 2, 6] rfl ?_
          refine g_cs (cs1 := [pre, w1253, post, [(n, ob 1 [.ref lm, .ref lb, .ref lr, .int (Prod.snd (Prod.snd (pMsg (List.length (nM P)) (mMeet M (gTm g)) (pB (List.eraseIdx (nB P) i) (nLo P)) g))), .int (nNow P)])], wm, wr, w2254, fz, w113]) rfl ?_
          refine g_fl (cs1 := [(pre ++ (w1253 ++ (post))), [(n, ob 1 [.ref lm, .ref lb, .ref lr, .int (Prod.snd (Prod.snd (pMsg (List.length (nM P)) (mMeet M (gTm g)) (pB (List.eraseIdx (nB P) i) (nLo P)) g))), .int (nNow P)])], wm, wr, w2254, fz, w113]) (by simp only [List.flatten_cons, List.flatten_nil, List.cons_append, List.append_assoc, List.nil_append, List.append_nil]) ?_
          have hML262 : ML E fz lm (List.set (nM P) (gT g) (Prod.fst (settle (List.length (nM P)) (nNow P) (Prod.fst (pMsg (List.length (nM P)) (mMeet M (gTm g)) (pB (List.eraseIdx (nB P) i) (nLo P)) g)) (nR P)))) wm (pre ++ (w1253 ++ (post))) := hMc _ _ _ Ext.rfl' h260
          generalize (pre ++ (w1253 ++ (post))) = wM263 at hML262 ⊢
          refine g_pk [1, 1, 0, 3, 0, 0, 0] rfl ?_
          refine g_cs (cs1 := [[(n, ob 1 [.ref lm, .ref lb, .ref lr, .int (Prod.snd (Prod.snd (pMsg (List.length (nM P)) (mMeet M (gTm g)) (pB (List.eraseIdx (nB P) i) (nLo P)) g))), .int (nNow P)])], wm, wM263, w113, wr, w2254, fz]) rfl ?_
          refine g_iret hX (pc := 206) hR ?_ (by omega) (by omega) dX2_deliver_206
          rw [nDel_up hM c18]
          exact ⟨_, _, _, _, Ext.rfl', hML262, h259, h261, rfl, rfl⟩
    · have h71_d : 3 < (gW g) := by omega
      refine g_tableOut hX (pc := 71) (tgt := 191) dX2_deliver_71 (by rw [nI_toInt (by omega)]; omega) rfl ?_
      refine g_aload_n hX (pc := 191) dX2_deliver_191 2 rfl ?_
      refine g_aload_n hX (pc := 192) dX2_deliver_192 0 rfl ?_
      refine g_aload_n hX (pc := 193) dX2_deliver_193 1 rfl ?_
      refine g_callV hX (pc := 194) kX2_follow (mt_Net_follow E l n lm lb lr (nNow P) m (mMeet M (gTm g)) wk40 fz (pB (List.eraseIdx (nB P) i) (nLo P)) w113 a g h42 hB15 hg (hn30) (by omega) (by omega) (by omega) (by omega) (by omega) (by omega) (by omega) (by omega) (by omega)) q1219 fcX2 (sp_mem (i := 1) rfl) [1, 0, 1, 1] rfl rfl rfl (Nat.le_of_ble_eq_true rfl) (Nat.le_of_ble_eq_true rfl) (Nat.le_of_ble_eq_true rfl) (by omega) (by omega) dX2_deliver_194 (fun v w1 hp => ?_)
      obtain ⟨fz1264, w1265, w2266, h267, h268, h269, rfl, rfl⟩ := hp
      refine g_nrm (cs1 := [[(n, ob 1 [.ref lm, .ref lb, .ref lr, .int (Prod.snd (Prod.snd (pFollow (mMeet M (gTm g)) (pB (List.eraseIdx (nB P) i) (nLo P)) g))), .int (nNow P)])], w1265, w2266, fz1264, wm, pre, post, wr, wq]) (st1 := []) rfl rfl ?_
      have h270 := ML.mono h267 hML
      have h271 := MsgIn.mono h267 hg
      have h272 := StIn.mono h267 k610
      have h273 := BL.mono h267 hB15
      have h274 := StIn.mono h267 hsp38
      have h275 := IsMach.mono h267 h42
      have hpm276 : (pMsg (List.length mas) (mMeet M (gTm g)) (pB (List.eraseIdx (nB P) i) (nLo P)) g) = (pFollow (mMeet M (gTm g)) (pB (List.eraseIdx (nB P) i) (nLo P)) g) := (if_neg (by omega)).trans ((if_neg (by omega)).trans (if_neg (by omega)))
      have h277 : IsMach E fz1264 m (Prod.fst (pMsg (List.length mas) (mMeet M (gTm g)) (pB (List.eraseIdx (nB P) i) (nLo P)) g)) w1265 := by rw [hpm276]; exact h268
      have h278 : BL E fz1264 lb (Prod.fst (Prod.snd (pMsg (List.length mas) (mMeet M (gTm g)) (pB (List.eraseIdx (nB P) i) (nLo P)) g))) w2266 := by rw [hpm276]; exact h269
      refine g_cs (cs1 := [[(n, ob 1 [.ref lm, .ref lb, .ref lr, .int (Prod.snd (Prod.snd (pMsg (List.length mas) (mMeet M (gTm g)) (pB (List.eraseIdx (nB P) i) (nLo P)) g))), .int (nNow P)])], w1265, w2266, fz1264, wm, pre, post, wr, wq]) (by rw [hpm276]) ?_
      refine g_aload_n hX (pc := 197) dX2_deliver_197 2 rfl ?_
      refine g_aload_n hX (pc := 198) dX2_deliver_198 0 rfl ?_
      refine g_callV hX (pc := 199) kX2_settle (mt_Net_settle E l n lm lb lr (Prod.snd (Prod.snd (pMsg (List.length mas) (mMeet M (gTm g)) (pB (List.eraseIdx (nB P) i) (nLo P)) g))) (nNow P) mas wm m (Prod.fst (pMsg (List.length mas) (mMeet M (gTm g)) (pB (List.eraseIdx (nB P) i) (nLo P)) g)) w1265 fz1264 (nR P) wr wq (b + mLeads (List.length mas) (mMeet M (gTm g)) g) hAm h277 hRq (hmx.1) (p3) (by omega)) q1139 fcX2 (sp_mem (i := 0) rfl) [0, 3, 0, 4, 4, 1] rfl rfl rfl (Nat.le_of_ble_eq_true rfl) (Nat.le_of_ble_eq_true rfl) (Nat.le_of_ble_eq_true rfl) (by omega) (by omega) dX2_deliver_199 (fun v w1 hp => ?_)
      obtain ⟨w1279, w2280, h281, h282, rfl, rfl⟩ := hp
      refine g_nrm (cs1 := [[(n, ob 1 [.ref lm, .ref lb, .ref lr, .int (Prod.snd (Prod.snd (pMsg (List.length mas) (mMeet M (gTm g)) (pB (List.eraseIdx (nB P) i) (nLo P)) g))), .int (nNow P)])], wm, w1279, wr, w2280, fz1264, w2266, pre, post]) (st1 := []) rfl rfl ?_
      refine g_aload_n hX (pc := 202) dX2_deliver_202 1 rfl ?_
      refine g_getNm hX (pc := 203) fcX13 (sp_in 5 rfl (h267 _ k15)) 2 (by decide) q1061 rfl (v := .int (nI (gT g))) rfl dX2_deliver_203 ?_
      have ht283 : List.length (nM P) = List.length mas := hml.symm
      refine g_cs (cs1 := [[(n, ob 1 [.ref lm, .ref lb, .ref lr, .int (Prod.snd (Prod.snd (pMsg (List.length (nM P)) (mMeet M (gTm g)) (pB (List.eraseIdx (nB P) i) (nLo P)) g))), .int (nNow P)])], wm, w1279, wr, w2280, fz1264, w2266, pre, post]) (by rw [ht283]) ?_
      have h284 : IsMach E fz1264 m (Prod.fst (pMsg (List.length (nM P)) (mMeet M (gTm g)) (pB (List.eraseIdx (nB P) i) (nLo P)) g)) w1265 := by rw [ht283]; exact h277
      have h285 : BL E fz1264 lb (Prod.fst (Prod.snd (pMsg (List.length (nM P)) (mMeet M (gTm g)) (pB (List.eraseIdx (nB P) i) (nLo P)) g))) w2266 := by rw [ht283]; exact h278
      have h286 : IsMach E fz1264 m (Prod.fst (settle (List.length (nM P)) (nNow P) (Prod.fst (pMsg (List.length (nM P)) (mMeet M (gTm g)) (pB (List.eraseIdx (nB P) i) (nLo P)) g)) (nR P))) w1279 := by rw [ht283]; exact h281
      have h287 : RL E lr (Prod.snd (settle (List.length (nM P)) (nNow P) (Prod.fst (pMsg (List.length (nM P)) (mMeet M (gTm g)) (pB (List.eraseIdx (nB P) i) (nLo P)) g)) (nR P))) wr w2280 := by rw [ht283]; exact h282
      refine g_pk [7, 2, 6] rfl ?_
      refine g_cs (cs1 := [pre, w1279, post, [(n, ob 1 [.ref lm, .ref lb, .ref lr, .int (Prod.snd (Prod.snd (pMsg (List.length (nM P)) (mMeet M (gTm g)) (pB (List.eraseIdx (nB P) i) (nLo P)) g))), .int (nNow P)])], wm, wr, w2280, fz1264, w2266]) rfl ?_
      refine g_fl (cs1 := [(pre ++ (w1279 ++ (post))), [(n, ob 1 [.ref lm, .ref lb, .ref lr, .int (Prod.snd (Prod.snd (pMsg (List.length (nM P)) (mMeet M (gTm g)) (pB (List.eraseIdx (nB P) i) (nLo P)) g))), .int (nNow P)])], wm, wr, w2280, fz1264, w2266]) (by simp only [List.flatten_cons, List.flatten_nil, List.cons_append, List.append_assoc, List.nil_append, List.append_nil]) ?_
      have hML288 : ML E fz1264 lm (List.set (nM P) (gT g) (Prod.fst (settle (List.length (nM P)) (nNow P) (Prod.fst (pMsg (List.length (nM P)) (mMeet M (gTm g)) (pB (List.eraseIdx (nB P) i) (nLo P)) g)) (nR P)))) wm (pre ++ (w1279 ++ (post))) := hMc _ _ _ h267 h286
      generalize (pre ++ (w1279 ++ (post))) = wM289 at hML288 ⊢
      refine g_pk [1, 1, 0, 3, 0, 0, 0] rfl ?_
      refine g_cs (cs1 := [[(n, ob 1 [.ref lm, .ref lb, .ref lr, .int (Prod.snd (Prod.snd (pMsg (List.length (nM P)) (mMeet M (gTm g)) (pB (List.eraseIdx (nB P) i) (nLo P)) g))), .int (nNow P)])], wm, wM289, w2266, wr, w2280, fz1264]) rfl ?_
      refine g_iret hX (pc := 206) hR ?_ (by omega) (by omega) dX2_deliver_206
      rw [nDel_up hM c18]
      exact ⟨_, _, _, _, h267, hML288, h285, h287, rfl, rfl⟩
  · have c18 := z01.mp c18_
    refine g_aload_n hX (pc := 41) dX2_deliver_41 2 rfl ?_
    refine g_dup hX (pc := 42) dX2_deliver_42 rfl ?_
    refine g_get hX (pc := 43) fcX2 1 rfl 3 (by decide) q161 rfl (v := .int (Prod.snd (pB (List.eraseIdx (nB P) i) (nLo P)))) rfl dX2_deliver_43 ?_
    refine g_iconst hX (pc := 46) (v := 1) dX2_deliver_46 (by decide) ?_
    refine g_iadd hX (pc := 47) dX2_deliver_47 ?_
    refine g_put hX (pc := 48) fcX2 1 (fs1 := [.ref lm, .ref lb, .ref lr, .int ((Prod.snd (pB (List.eraseIdx (nB P) i) (nLo P))) + 1), .int (nNow P)]) (cs1 := [wk, [(n, ob 1 [.ref lm, .ref lb, .ref lr, .int ((Prod.snd (pB (List.eraseIdx (nB P) i) (nLo P))) + 1), .int (nNow P)])], wm, w113, fz, pre, post, wr, wq]) rfl 3 (by decide) q161 rfl rfl rfl rfl (Nat.le_of_ble_eq_true rfl) rfl rfl dX2_deliver_48 ?_
    refine g_aload_n hX (pc := 51) dX2_deliver_51 1 rfl ?_
    refine g_getNm hX (pc := 52) fcX13 (sp_in 4 rfl k15) 2 (by decide) q1061 rfl (v := .int (nI (gT g))) rfl dX2_deliver_52 ?_
    refine g_pk [5, 0, 4] rfl ?_
    refine g_cs (cs1 := [pre, wk, post, [(n, ob 1 [.ref lm, .ref lb, .ref lr, .int ((Prod.snd (pB (List.eraseIdx (nB P) i) (nLo P))) + 1), .int (nNow P)])], wm, w113, fz, wr, wq]) rfl ?_
    refine g_fl (cs1 := [(pre ++ (wk ++ (post))), [(n, ob 1 [.ref lm, .ref lb, .ref lr, .int ((Prod.snd (pB (List.eraseIdx (nB P) i) (nLo P))) + 1), .int (nNow P)])], wm, w113, fz, wr, wq]) (by simp only [List.flatten_cons, List.flatten_nil, List.cons_append, List.append_assoc, List.nil_append, List.append_nil]) ?_
    refine g_pk [1, 1, 0, 0, 1, 1, 0] rfl ?_
    refine g_cs (cs1 := [[(n, ob 1 [.ref lm, .ref lb, .ref lr, .int ((Prod.snd (pB (List.eraseIdx (nB P) i) (nLo P))) + 1), .int (nNow P)])], wm, (pre ++ (wk ++ (post))), w113, wr, wq, fz]) rfl ?_
    refine g_iret hX (pc := 55) hR ?_ (by omega) (by omega) dX2_deliver_55
    rw [nDel_down hM c18]
    exact ⟨_, _, _, _, Ext.rfl', hML, hB15, hRq, rfl, rfl⟩

set_option maxHeartbeats 4000000 in
theorem mt_Net_deliverAll (E : EE) (l : Launch) (n : Nat) (lm : Nat) (lb : Nat) (lr : Nat) (P : PN) (wm : va_W) (wM : va_W) (wb : va_W) (wr : va_W) (wq : va_W) (fz : va_W) (most : Nat) (hML : ML E fz lm (nM P) wm wM) (hB : BL E fz lb (nB P) wb) (hRq : RL E lr (nR P) wr wq) (hP : (nInv 32 P)) (hm : (most ≤ 1000)) : Mt E l yX2_deliverAll cX2_deliverAll 3 (some .int) 12 (16 * nAllN most P + 22 * nAllL most P) (321 * nAllN most P + 542 * nAllL most P) 289 [.ref n, .int (nI most)] [[(n, ob 1 [.ref lm, .ref lb, .ref lr, .int (nLo P), .int (nNow P)])], wm, wM, wb, wr, wq, fz] (fun (v_ : Option Value) (cs_ : List va_W) => ∃ (fz1 : va_W) (w1 : va_W) (w2 : va_W) (w3 : va_W), Ext E fz fz1 ∧ ML E fz1 lm (nM (nAll most P)) wm w1 ∧ BL E fz1 lb (nB (nAll most P)) w2 ∧ RL E lr (nR (nAll most P)) wr w3 ∧ v_ = some (.int (nI (nAllN most P))) ∧ cs_ = [[(n, ob 1 [.ref lm, .ref lb, .ref lr, .int (nLo (nAll most P)), .int (nNow (nAll most P))])], wm, w1, w2, wr, w3, fz1]) := by
  refine Mt.of (by decide) (Nat.le_of_ble_eq_true rfl) (fun X hX hR hin => ?_)
  refine g_lv1 (lv1 := [(0, .ref n), (1, .int (nI most))]) rfl ?_
  refine g_iconst hX (pc := 0) (v := 0) dX2_deliverAll_0 (by decide) ?_
  refine g_eqi (nI 0) (nI_0.symm) ?_
  refine g_istore_n hX (pc := 1) (lv1 := [(2, .int (nI 0)), (0, .ref n), (1, .int (nI most))]) dX2_deliverAll_1 (by decide) rfl ?_
  have lp1 : ∀ (F1 : Nat) (i : Nat) (Q : PN) (ld : Nat) (fzL : va_W) (wML : va_W) (wbL : va_W) (wqL : va_W), most - i < F1 → (i ≤ most) → (nInv 32 Q) → (nAll (most - i) Q = nAll most P) → (i + nAllN (most - i) Q = nAllN most P) → (ld + nAllL (most - i) Q = nAllL most P) → Ext E fz fzL → ML E fzL lm (nM Q) wm wML → BL E fzL lb (nB Q) wbL → RL E lr (nR Q) wr wqL → G E l X [[(n, ob 1 [.ref lm, .ref lb, .ref lr, .int (nLo Q), .int (nNow Q)])], wm, wML, wbL, wr, wqL, fzL] (16 * i + 22 * ld) (321 * i + 542 * ld) 2 [(0, .ref n), (1, .int (nI most)), (2, .int (nI i))] [] := by
    intro F1
    induction F1 with
    | zero =>
      intro i Q ld fzL wML wbL wqL hF hi hQ h1 h2 h3 hxL hML2 hB2 hR2
      exact absurd hF (Nat.not_lt_zero _)
    | succ F1 ih1 =>
      intro i Q ld fzL wML wbL wqL hF hi hQ h1 h2 h3 hxL hML2 hB2 hR2
      refine g_iload_n hX (pc := 2) dX2_deliverAll_2 2 rfl ?_
      refine g_iload_n hX (pc := 3) dX2_deliverAll_3 1 rfl ?_
      refine g_icmp_ge hX (pc := 4) (tgt := 31) dX2_deliverAll_4 rfl (fun c2 => ?_) (fun c2 => ?_)
      · have d1 : i = most := by
          have := (nI_leI (by omega) (by omega)).mp c2
          omega
        subst d1
        rw [Nat.sub_self] at h1 h2 h3
        have e1 : nAll i P = Q := h1.symm
        have e2 : nAllN i P = i := h2.symm
        have e3 : nAllL i P = ld := h3.symm
        refine g_iload_n hX (pc := 31) dX2_deliverAll_31 2 rfl ?_
        refine g_iret hX (pc := 32) hR ?_ (by omega) (by omega) dX2_deliverAll_32
        rw [e1, e2]
        exact ⟨_, _, _, _, hxL, hML2, hB2, hR2, rfl, rfl⟩
      · have d1 : i < most := by
          have := mt (nI_leI (by omega) (by omega)).mpr c2
          omega
        obtain ⟨as3, hal4, hln5⟩ := BL.al hB2
        obtain ⟨bq, hq1, hq2⟩ := hQ
        have hq30 := hq1.2.1
        refine g_aload_n hX (pc := 7) dX2_deliverAll_7 0 rfl ?_
        refine g_get hX (pc := 8) fcX2 0 rfl 1 (by decide) q157 rfl (v := .ref lb) rfl dX2_deliverAll_8 ?_
        obtain ⟨fs6, hm7⟩ := AL.head hal4
        refine g_callF hX (pc := 11) kfJ2_isEmpty (mt_AL_isEmpty E l lb as3 wbL hal4 (by omega)) q1184 fcJ2 (sp_in 3 rfl hm7) [3] rfl rfl rfl (Nat.le_of_ble_eq_true rfl) (Nat.le_of_ble_eq_true rfl) (Nat.le_of_ble_eq_true rfl) (by omega) (by omega) dX2_deliverAll_11 (fun v w1 hp => ?_)
        obtain ⟨rfl, rfl⟩ := hp
        refine g_nrm (cs1 := [wbL, [(n, ob 1 [.ref lm, .ref lb, .ref lr, .int (nLo Q), .int (nNow Q)])], wm, wML, wr, wqL, fzL]) (st1 := [.int (if List.length as3 = 0 then 1 else 0)]) rfl rfl ?_
        refine g_if_ne hX (pc := 16) (tgt := 31) dX2_deliverAll_16 rfl (fun c8_ => ?_) (fun c8_ => ?_)
        · have c8 := z10n.mp c8_
          have d2 : (nB Q).length = 0 := by omega
          obtain ⟨a1, a2, a3⟩ := nAll_e (n := most - i) d2
          rw [a1] at h1
          rw [a2] at h2
          rw [a3] at h3
          have e1 : nAll most P = Q := h1.symm
          have e2 : nAllN most P = i := h2.symm
          have e3 : nAllL most P = ld := h3.symm
          refine g_iload_n hX (pc := 31) dX2_deliverAll_31 2 rfl ?_
          refine g_pk [1, 1, 1, 0, 0, 0, 0] rfl ?_
          refine g_cs (cs1 := [[(n, ob 1 [.ref lm, .ref lb, .ref lr, .int (nLo Q), .int (nNow Q)])], wm, wML, wbL, wr, wqL, fzL]) rfl ?_
          refine g_iret hX (pc := 32) hR ?_ (by omega) (by omega) dX2_deliverAll_32
          rw [e1, e2]
          exact ⟨_, _, _, _, hxL, hML2, hB2, hR2, rfl, rfl⟩
        · have c8 := z10.mp c8_
          obtain ⟨g, hg⟩ := get_ex (l := nB Q) (i := 0) (by omega)
          have hs := nAll_s (n := most - (i + 1)) hg
          rw [show most - (i + 1) + 1 = most - i by omega] at hs
          have hQ2 := deliver_nInv ⟨bq, hq1, hq2⟩ hg
          refine g_aload_n hX (pc := 19) dX2_deliverAll_19 0 rfl ?_
          refine g_iconst hX (pc := 20) (v := 0) dX2_deliverAll_20 (by decide) ?_
          refine g_eqi (nI 0) (nI_0.symm) ?_
          refine g_callV hX (pc := 21) kX2_deliver (mt_Net_deliver E l n lm lb lr Q wm wML wbL wr wqL fzL 0 g bq hML2 hB2 hR2 (hq1) (by omega) (hg)) q1192 fcX2 (sp_mem (i := 1) rfl) [1, 1, 1, 0, 0, 0, 0] rfl rfl rfl (Nat.le_of_ble_eq_true rfl) (Nat.le_of_ble_eq_true rfl) (Nat.le_of_ble_eq_true rfl) (by omega) (by omega) dX2_deliverAll_21 (fun v w1 hp => ?_)
          obtain ⟨fz19, w110, w211, w312, h13, h14, h15, h16, rfl, rfl⟩ := hp
          refine g_nrm (cs1 := [[(n, ob 1 [.ref lm, .ref lb, .ref lr, .int (nLo (nDeliver Q 0 g)), .int (nNow (nDeliver Q 0 g))])], wm, w110, w211, wr, w312, fz19]) (st1 := [.int (nI (gT g))]) rfl rfl ?_
          have h17 := ML.mono h13 hML2
          have h18 := BL.mono h13 hB2
          refine g_pop hX (pc := 24) dX2_deliverAll_24 rfl ?_
          refine g_iinc hX (pc := 25) (v := nI (i + 1)) (lv1 := [(2, .int (nI (i + 1))), (0, .ref n), (1, .int (nI most))]) dX2_deliverAll_25 2 rfl (nI_1 _) (by decide) rfl ?_
          refine g_goto hX (pc := 28) (tgt := 2) dX2_deliverAll_28 rfl ?_
          refine g_lv (lv1 := [(0, .ref n), (1, .int (nI most)), (2, .int (nI (i + 1)))]) [1, 2, 0] rfl ?_
          refine g_widen (kc1 := 16 * (i + 1) + 22 * (ld + nLeads Q g)) (ks1 := 321 * (i + 1) + 542 * (ld + nLeads Q g)) (by omega) (by omega) ?_
          exact ih1 (i + 1) (nDeliver Q 0 g) (ld + nLeads Q g) fz19 w110 w211 w312 (by omega) (by omega) (hQ2) (by rw [← hs.1]; exact h1) (by have := hs.2.1; omega) (by have := hs.2.2; omega) (Ext.tr hxL h13) h14 h15 h16
  refine g_lv (lv1 := [(0, .ref n), (1, .int (nI most)), (2, .int (nI 0))]) [1, 2, 0] rfl ?_
  refine g_widen (kc1 := 16 * 0 + 22 * 0) (ks1 := 321 * 0 + 542 * 0) (by omega) (by omega) ?_
  exact lp1 ((most - 0) + 1) 0 P 0 fz wM wb wq (Nat.lt_succ_self _) (Nat.zero_le _) (hP) (rfl) (Nat.zero_add _) (Nat.zero_add _) (Ext.rfl') hML hB hRq
