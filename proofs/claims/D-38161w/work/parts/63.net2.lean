set_option maxHeartbeats 4000000 in
theorem mt_Net_answer (E : EE) (l : Launch) (n : Nat) (lm : Nat) (lb : Nat) (lr : Nat) (nw : Int32) (m : Nat) (M : PM) (wk : va_W) (fz : va_W) (B : PB) (wb : va_W) (a : Nat) (g : PMg) (wd : Nat) (y : Bool) (k : Nat) (hM : IsMach E fz m M wk) (hB : BL E fz lb (Prod.fst B) wb) (hg : MsgIn E fz a g) (hn : (List.length (Prod.fst B) ≤ 30)) : Mt E l yX2_answer cX2_answer 7 none 8 3 80 192 [.ref n, .ref m, .ref a, .ref (aW E wd), .int (bI y), .int (nI k)] [[(n, ob 1 [.ref lm, .ref lb, .ref lr, .int (Prod.snd B), .int nw])], wk, wb, fz] (fun (v_ : Option Value) (cs_ : List va_W) => ∃ (fz1 : va_W) (w1 : va_W) (w2 : va_W), Ext E fz fz1 ∧ IsMach E fz1 m M w1 ∧ BL E fz1 lb (Prod.fst (bSend B (mkA wd M (gF g) y k))) w2 ∧ v_ = none ∧ cs_ = [[(n, ob 1 [.ref lm, .ref lb, .ref lr, .int (Prod.snd (bSend B (mkA wd M (gF g) y k))), .int nw])], w1, w2, fz1]) := by
  refine Mt.of (by decide) (Nat.le_of_ble_eq_true rfl) (fun X hX hR hin => ?_)
  refine g_lv1 (lv1 := [(0, .ref n), (1, .ref m), (2, .ref a), (3, .ref (aW E wd)), (4, .int (bI y)), (5, .int (nI k))]) rfl ?_
  obtain ⟨ra1, sp2, ges3, f4, k15, k26, k37, k48, k59, k610⟩ := MsgIn.out hg
  obtain ⟨rn11, rk12, rl13, rs14, rst15, fn16, fk17, wl18, ws19, wst20, hn21, hL22, hV23, hS24, rfl⟩ := hM
  obtain ⟨la25, sp26, ges27, wl18, hE28, hges29, hsp30, rfl⟩ := hL22
  refine g_fl (cs1 := [[(n, ob 1 [.ref lm, .ref lb, .ref lr, .int (Prod.snd B), .int nw])], [(m, ob 8 [.int (nI (mN M)), .ref rn11, .ref rk12, .ref rl13, .ref rs14, .ref rst15, .int (mR M), .int (mVt M), .int (nI (mSu M)), .int (nI (mDn M)), .int (bI (mLz M))])], [(rn11, iA (aC E 0) 5 fn16)], [(rk12, iA (aC E 0) 5 fk17)], [(rl13, ob 9 [.ref la25, .int (lT (mL M)), .int (lV (mL M)), .int (nI (lB (mL M))), .int (lBT (mL M)), .ref sp26])], wl18, ws19, wst20, wb, fz]) (by simp only [List.flatten_cons, List.flatten_nil, List.cons_append, List.append_assoc, List.nil_append, List.append_nil]) ?_
  have hl_ges27 : List.length ges27 = List.length (lE (mL M)) := by rw [← hges29, List.length_map]
  refine g_new hX (pc := 0) fcX13 q977 q1041 q99 (fs := [.null, .int 0, .int 0, .int 0, .int 0, .int 0, .int 0, .int 0, .null, .null]) (fun j hj => by match j, hj with | 0, _ => rfl | 1, _ => rfl | 2, _ => rfl | 3, _ => rfl | 4, _ => rfl | 5, _ => rfl | 6, _ => rfl | 7, _ => rfl | 8, _ => rfl | 9, _ => rfl | j + 10, h => exact absurd h (by omega)) (by omega) (by omega) dX2_answer_0 (fun q31 => ?_)
  refine g_dup hX (pc := 3) dX2_answer_3 rfl ?_
  refine g_aload_n hX (pc := 4) dX2_answer_4 3 rfl ?_
  refine g_aload_n hX (pc := 5) dX2_answer_5 2 rfl ?_
  refine g_getNm hX (pc := 6) fcX13 (sp_in 10 rfl k15) 1 (by decide) q1059 rfl (v := .int (nI (gF g))) rfl dX2_answer_6 ?_
  refine g_aload_n hX (pc := 9) dX2_answer_9 1 rfl ?_
  refine g_iload hX (pc := 10) dX2_answer_10 5 rfl ?_
  refine g_iconst hX (pc := 12) (v := 0) dX2_answer_12 (by decide) ?_
  refine g_callI hX (pc := 13) kX13_init (mt_Message_init E l q31 (aW E wd) (nI (gF g)) (nI k) 0 m (nI (mN M)) rn11 rk12 rl13 rs14 rst15 (mR M) (mVt M) (nI (mSu M)) (nI (mDn M)) (bI (mLz M)) la25 (lT (mL M)) (lV (mL M)) (lB (mL M)) (lBT (mL M)) sp26) q1049 [0, 1, 3] rfl rfl rfl (Nat.le_of_ble_eq_true rfl) (Nat.le_of_ble_eq_true rfl) (Nat.le_of_ble_eq_true rfl) (by omega) (by omega) dX2_answer_13 (fun v w1 hp => ?_)
  obtain ⟨ra32, rfl, rfl⟩ := hp
  refine g_nrm (cs1 := [[(q31, ob 11 [.ref (aW E wd), .int (nI (mN M)), .int (nI (gF g)), .int (lT (mL M)), .int (nI k), .int 0, .int 0, .int 0, .ref ra32, .ref sp26])], [(ra32, qA (aC E 3) 0 (fun _ => none))], [(m, ob 8 [.int (nI (mN M)), .ref rn11, .ref rk12, .ref rl13, .ref rs14, .ref rst15, .int (mR M), .int (mVt M), .int (nI (mSu M)), .int (nI (mDn M)), .int (bI (mLz M))])], [(rl13, ob 9 [.ref la25, .int (lT (mL M)), .int (lV (mL M)), .int (nI (lB (mL M))), .int (lBT (mL M)), .ref sp26])], [(n, ob 1 [.ref lm, .ref lb, .ref lr, .int (Prod.snd B), .int nw])], [(rn11, iA (aC E 0) 5 fn16)], [(rk12, iA (aC E 0) 5 fk17)], wl18, ws19, wst20, wb, fz]) (st1 := [.ref q31]) rfl rfl ?_
  refine g_astore hX (pc := 16) (lv1 := [(6, .ref q31), (0, .ref n), (1, .ref m), (2, .ref a), (3, .ref (aW E wd)), (4, .int (bI y)), (5, .int (nI k))]) dX2_answer_16 (by decide) rfl ?_
  refine g_aload hX (pc := 18) dX2_answer_18 0 rfl ?_
  refine g_iload hX (pc := 20) dX2_answer_20 5 rfl ?_
  refine g_putN hX (pc := 22) fcX13 0 (fs1 := [.ref (aW E wd), .int (nI (mN M)), .int (nI (gF g)), .int (lT (mL M)), .int (nI k), .int 0, .int (bI y), .int 0, .ref ra32, .ref sp26]) (cs1 := [[(q31, ob 11 [.ref (aW E wd), .int (nI (mN M)), .int (nI (gF g)), .int (lT (mL M)), .int (nI k), .int 0, .int (bI y), .int 0, .ref ra32, .ref sp26])], [(ra32, qA (aC E 3) 0 (fun _ => none))], [(m, ob 8 [.int (nI (mN M)), .ref rn11, .ref rk12, .ref rl13, .ref rs14, .ref rst15, .int (mR M), .int (mVt M), .int (nI (mSu M)), .int (nI (mDn M)), .int (bI (mLz M))])], [(rl13, ob 9 [.ref la25, .int (lT (mL M)), .int (lV (mL M)), .int (nI (lB (mL M))), .int (lBT (mL M)), .ref sp26])], [(n, ob 1 [.ref lm, .ref lb, .ref lr, .int (Prod.snd B), .int nw])], [(rn11, iA (aC E 0) 5 fn16)], [(rk12, iA (aC E 0) 5 fk17)], wl18, ws19, wst20, wb, fz]) rfl 6 (by decide) q1069 rfl rfl (bI_n _) (bI_f _) (Nat.le_of_ble_eq_true rfl) rfl rfl dX2_answer_22 ?_
  refine g_aload_n hX (pc := 25) dX2_answer_25 1 rfl ?_
  refine g_aload hX (pc := 26) dX2_answer_26 0 rfl ?_
  refine g_pk [0, 0, 9] rfl ?_
  refine g_cs (cs1 := [[(q31, ob 11 [.ref (aW E wd), .int (nI (mN M)), .int (nI (gF g)), .int (lT (mL M)), .int (nI k), .int 0, .int (bI y), .int 0, .ref ra32, .ref sp26])], [(ra32, qA (aC E 3) 0 (fun _ => none))], fz, [(m, ob 8 [.int (nI (mN M)), .ref rn11, .ref rk12, .ref rl13, .ref rs14, .ref rst15, .int (mR M), .int (mVt M), .int (nI (mSu M)), .int (nI (mDn M)), .int (bI (mLz M))])], [(rl13, ob 9 [.ref la25, .int (lT (mL M)), .int (lV (mL M)), .int (nI (lB (mL M))), .int (lBT (mL M)), .ref sp26])], [(n, ob 1 [.ref lm, .ref lb, .ref lr, .int (Prod.snd B), .int nw])], [(rn11, iA (aC E 0) 5 fn16)], [(rk12, iA (aC E 0) 5 fk17)], wl18, ws19, wst20, wb]) rfl ?_
  refine g_fl (cs1 := [((q31, ob 11 [.ref (aW E wd), .int (nI (mN M)), .int (nI (gF g)), .int (lT (mL M)), .int (nI k), .int 0, .int (bI y), .int 0, .ref ra32, .ref sp26]) :: ((ra32, qA (aC E 3) 0 (fun _ => none)) :: (fz))), [(m, ob 8 [.int (nI (mN M)), .ref rn11, .ref rk12, .ref rl13, .ref rs14, .ref rst15, .int (mR M), .int (mVt M), .int (nI (mSu M)), .int (nI (mDn M)), .int (bI (mLz M))])], [(rl13, ob 9 [.ref la25, .int (lT (mL M)), .int (lV (mL M)), .int (nI (lB (mL M))), .int (lBT (mL M)), .ref sp26])], [(n, ob 1 [.ref lm, .ref lb, .ref lr, .int (Prod.snd B), .int nw])], [(rn11, iA (aC E 0) 5 fn16)], [(rk12, iA (aC E 0) 5 fk17)], wl18, ws19, wst20, wb]) (by simp only [List.flatten_cons, List.flatten_nil, List.cons_append, List.append_assoc, List.nil_append, List.append_nil]) ?_
  have hx34 : Ext E fz ((q31, ob 11 [.ref (aW E wd), .int (nI (mN M)), .int (nI (gF g)), .int (lT (mL M)), .int (nI k), .int 0, .int (bI y), .int 0, .ref ra32, .ref sp26]) :: ((ra32, qA (aC E 3) 0 (fun _ => none)) :: (fz))) := fun q hq => (List.mem_cons_of_mem _ (List.mem_cons_of_mem _ hq))
  have hm35 : (q31, ob 11 [.ref (aW E wd), .int (nI (mN M)), .int (nI (gF g)), .int (lT (mL M)), .int (nI k), .int 0, .int (bI y), .int 0, .ref ra32, .ref sp26]) ∈ ((q31, ob 11 [.ref (aW E wd), .int (nI (mN M)), .int (nI (gF g)), .int (lT (mL M)), .int (nI k), .int 0, .int (bI y), .int 0, .ref ra32, .ref sp26]) :: ((ra32, qA (aC E 3) 0 (fun _ => none)) :: (fz))) := (List.mem_cons_self)
  have hm36 : (ra32, qA (aC E 3) 0 (fun _ => none)) ∈ ((q31, ob 11 [.ref (aW E wd), .int (nI (mN M)), .int (nI (gF g)), .int (lT (mL M)), .int (nI k), .int 0, .int (bI y), .int 0, .ref ra32, .ref sp26]) :: ((ra32, qA (aC E 3) 0 (fun _ => none)) :: (fz))) := (List.mem_cons_of_mem _ (List.mem_cons_self))
  generalize ((q31, ob 11 [.ref (aW E wd), .int (nI (mN M)), .int (nI (gF g)), .int (lT (mL M)), .int (nI k), .int 0, .int (bI y), .int 0, .ref ra32, .ref sp26]) :: ((ra32, qA (aC E 3) 0 (fun _ => none)) :: (fz))) = fz33 at hx34 hm35 hm36 ⊢
  have h37 := BL.mono hx34 hB
  have h38 := MsgIn.mono hx34 hg
  have h39 := StIn.mono hx34 k610
  have h40 := EL.mono hx34 hE28
  have h41 := StIn.mono hx34 hsp30
  have h42 := IsLog.mono hx34 hV23
  have hmm43 : MsgIn E fz33 q31 (mkA wd M (gF g) y k) := ⟨_, _, [], _, hm35, hm36, by simp, rfl, by simp, h41⟩
  refine g_callV hX (pc := 28) kX2_send (mt_Net_send E l n lm lb lr nw B wb fz33 q31 (mkA wd M (gF g) y k) h37 hmm43 (hn)) q1096 fcX2 (sp_mem (i := 3) rfl) [3, 8, 0] rfl rfl rfl (Nat.le_of_ble_eq_true rfl) (Nat.le_of_ble_eq_true rfl) (Nat.le_of_ble_eq_true rfl) (by omega) (by omega) dX2_answer_28 (fun v w1 hp => ?_)
  obtain ⟨w144, h45, rfl, rfl⟩ := hp
  refine g_nrm (cs1 := [[(n, ob 1 [.ref lm, .ref lb, .ref lr, .int (Prod.snd (bSend B (mkA wd M (gF g) y k))), .int nw])], w144, fz33, [(m, ob 8 [.int (nI (mN M)), .ref rn11, .ref rk12, .ref rl13, .ref rs14, .ref rst15, .int (mR M), .int (mVt M), .int (nI (mSu M)), .int (nI (mDn M)), .int (bI (mLz M))])], [(rl13, ob 9 [.ref la25, .int (lT (mL M)), .int (lV (mL M)), .int (nI (lB (mL M))), .int (lBT (mL M)), .ref sp26])], [(rn11, iA (aC E 0) 5 fn16)], [(rk12, iA (aC E 0) 5 fk17)], wl18, ws19, wst20]) (st1 := []) rfl rfl ?_
  refine g_pk [3, 4, 4, 3, 3, 3, 3] rfl ?_
  refine g_cs (cs1 := [[(m, ob 8 [.int (nI (mN M)), .ref rn11, .ref rk12, .ref rl13, .ref rs14, .ref rst15, .int (mR M), .int (mVt M), .int (nI (mSu M)), .int (nI (mDn M)), .int (bI (mLz M))])], [(rn11, iA (aC E 0) 5 fn16)], [(rk12, iA (aC E 0) 5 fk17)], [(rl13, ob 9 [.ref la25, .int (lT (mL M)), .int (lV (mL M)), .int (nI (lB (mL M))), .int (lBT (mL M)), .ref sp26])], wl18, ws19, wst20, [(n, ob 1 [.ref lm, .ref lb, .ref lr, .int (Prod.snd (bSend B (mkA wd M (gF g) y k))), .int nw])], w144, fz33]) rfl ?_
  refine g_fl (cs1 := [((m, ob 8 [.int (nI (mN M)), .ref rn11, .ref rk12, .ref rl13, .ref rs14, .ref rst15, .int (mR M), .int (mVt M), .int (nI (mSu M)), .int (nI (mDn M)), .int (bI (mLz M))]) :: (rn11, iA (aC E 0) 5 fn16) :: (rk12, iA (aC E 0) 5 fk17) :: (((rl13, ob 9 [.ref la25, .int (lT (mL M)), .int (lV (mL M)), .int (nI (lB (mL M))), .int (lBT (mL M)), .ref sp26]) :: wl18) ++ (ws19 ++ wst20))), [(n, ob 1 [.ref lm, .ref lb, .ref lr, .int (Prod.snd (bSend B (mkA wd M (gF g) y k))), .int nw])], w144, fz33]) (by simp only [List.flatten_cons, List.flatten_nil, List.cons_append, List.append_assoc, List.nil_append, List.append_nil]) ?_
  have hM46 : IsMach E fz33 m M ((m, ob 8 [.int (nI (mN M)), .ref rn11, .ref rk12, .ref rl13, .ref rs14, .ref rst15, .int (mR M), .int (mVt M), .int (nI (mSu M)), .int (nI (mDn M)), .int (bI (mLz M))]) :: (rn11, iA (aC E 0) 5 fn16) :: (rk12, iA (aC E 0) 5 fk17) :: (((rl13, ob 9 [.ref la25, .int (lT (mL M)), .int (lV (mL M)), .int (nI (lB (mL M))), .int (lBT (mL M)), .ref sp26]) :: wl18) ++ (ws19 ++ wst20))) := ⟨_, _, _, _, _, _, _, _, _, _, hn21, ⟨_, _, _, _, h40, hges29, h41, rfl⟩, h42, hS24, rfl⟩
  generalize ((m, ob 8 [.int (nI (mN M)), .ref rn11, .ref rk12, .ref rl13, .ref rs14, .ref rst15, .int (mR M), .int (mVt M), .int (nI (mSu M)), .int (nI (mDn M)), .int (bI (mLz M))]) :: (rn11, iA (aC E 0) 5 fn16) :: (rk12, iA (aC E 0) 5 fk17) :: (((rl13, ob 9 [.ref la25, .int (lT (mL M)), .int (lV (mL M)), .int (nI (lB (mL M))), .int (lBT (mL M)), .ref sp26]) :: wl18) ++ (ws19 ++ wst20))) = wk47 at hM46 ⊢
  refine g_pk [1, 0, 0, 0] rfl ?_
  refine g_cs (cs1 := [[(n, ob 1 [.ref lm, .ref lb, .ref lr, .int (Prod.snd (bSend B (mkA wd M (gF g) y k))), .int nw])], wk47, w144, fz33]) rfl ?_
  refine g_vret hX (pc := 31) hR ?_ (by omega) (by omega) dX2_answer_31
  exact ⟨_, _, _, hx34, hM46, h45, rfl, rfl⟩

set_option maxHeartbeats 4000000 in
theorem mt_Net_ask (E : EE) (l : Launch) (n : Nat) (lm : Nat) (lb : Nat) (lr : Nat) (nw : Int32) (m : Nat) (M : PM) (wk : va_W) (fz : va_W) (B : PB) (wb : va_W) (a : Nat) (g : PMg) (hM : IsMach E fz m M wk) (hB : BL E fz lb (Prod.fst B) wb) (hg : MsgIn E fz a g) (hn : (List.length (Prod.fst B) ≤ 30)) (hl : (lLast (mL M) ≤ 1000)) (hgn : (gN g ≤ 1000)) : Mt E l yX2_ask cX2_ask 8 none 9 3 80 218 [.ref n, .ref m, .ref a] [[(n, ob 1 [.ref lm, .ref lb, .ref lr, .int (Prod.snd B), .int nw])], wk, wb, fz] (fun (v_ : Option Value) (cs_ : List va_W) => ∃ (fz1 : va_W) (w1 : va_W) (w2 : va_W), Ext E fz fz1 ∧ IsMach E fz1 m (Prod.fst (pAsk M B g)) w1 ∧ BL E fz1 lb (Prod.fst (Prod.snd (pAsk M B g))) w2 ∧ v_ = none ∧ cs_ = [[(n, ob 1 [.ref lm, .ref lb, .ref lr, .int (Prod.snd (Prod.snd (pAsk M B g))), .int nw])], w1, w2, fz1]) := by
  have hll : lLast (mL M) = lB (mL M) + (lE (mL M)).length := rfl
  refine Mt.of (by decide) (Nat.le_of_ble_eq_true rfl) (fun X hX hR hin => ?_)
  refine g_lv1 (lv1 := [(0, .ref n), (1, .ref m), (2, .ref a)]) rfl ?_
  obtain ⟨ra1, sp2, ges3, f4, k15, k26, k37, k48, k59, k610⟩ := MsgIn.out hg
  obtain ⟨rn11, rk12, rl13, rs14, rst15, fn16, fk17, wl18, ws19, wst20, hn21, hL22, hV23, hS24, rfl⟩ := hM
  obtain ⟨la25, sp26, ges27, wl18, hE28, hges29, hsp30, rfl⟩ := hL22
  refine g_fl (cs1 := [[(n, ob 1 [.ref lm, .ref lb, .ref lr, .int (Prod.snd B), .int nw])], [(m, ob 8 [.int (nI (mN M)), .ref rn11, .ref rk12, .ref rl13, .ref rs14, .ref rst15, .int (mR M), .int (mVt M), .int (nI (mSu M)), .int (nI (mDn M)), .int (bI (mLz M))])], [(rn11, iA (aC E 0) 5 fn16)], [(rk12, iA (aC E 0) 5 fk17)], [(rl13, ob 9 [.ref la25, .int (lT (mL M)), .int (lV (mL M)), .int (nI (lB (mL M))), .int (lBT (mL M)), .ref sp26])], wl18, ws19, wst20, wb, fz]) (by simp only [List.flatten_cons, List.flatten_nil, List.cons_append, List.append_assoc, List.nil_append, List.append_nil]) ?_
  have hl_ges27 : List.length ges27 = List.length (lE (mL M)) := by rw [← hges29, List.length_map]
  refine g_aload_n hX (pc := 0) dX2_ask_0 1 rfl ?_
  refine g_getN hX (pc := 1) fcX9 1 rfl 3 (by decide) q933 rfl (v := .ref rl13) rfl dX2_ask_1 ?_
  refine g_astore_n hX (pc := 4) (lv1 := [(3, .ref rl13), (0, .ref n), (1, .ref m), (2, .ref a)]) dX2_ask_4 (by decide) rfl ?_
  refine g_aload_n hX (pc := 5) dX2_ask_5 0 rfl ?_
  refine g_aload_n hX (pc := 6) dX2_ask_6 0 rfl ?_
  refine g_callV hX (pc := 7) kX10_last (mt_Log_last E l rl13 la25 (lT (mL M)) (lV (mL M)) (lB (mL M)) (lBT (mL M)) sp26 fz ges27 wl18 hE28) q235 fcX10 (sp_mem (i := 4) rfl) [4, 4] rfl rfl rfl (Nat.le_of_ble_eq_true rfl) (Nat.le_of_ble_eq_true rfl) (Nat.le_of_ble_eq_true rfl) (by omega) (by omega) dX2_ask_7 (fun v w1 hp => ?_)
  obtain ⟨rfl, rfl⟩ := hp
  refine g_nrm (cs1 := [[(rl13, ob 9 [.ref la25, .int (lT (mL M)), .int (lV (mL M)), .int (nI (lB (mL M))), .int (lBT (mL M)), .ref sp26])], wl18, [(n, ob 1 [.ref lm, .ref lb, .ref lr, .int (Prod.snd B), .int nw])], [(m, ob 8 [.int (nI (mN M)), .ref rn11, .ref rk12, .ref rl13, .ref rs14, .ref rst15, .int (mR M), .int (mVt M), .int (nI (mSu M)), .int (nI (mDn M)), .int (bI (mLz M))])], [(rn11, iA (aC E 0) 5 fn16)], [(rk12, iA (aC E 0) 5 fk17)], ws19, wst20, wb, fz]) (st1 := [.int (nI ((lB (mL M)) + List.length ges27)), .ref rl13]) rfl rfl ?_
  refine g_eqi (nI (lLast (mL M))) (by rw [hl_ges27]) ?_
  obtain ⟨g31, hg32, ht33⟩ := tm_ex (L := (mL M)) (n := lLast (mL M)) hges29 (Nat.le_add_right _ _) (Nat.le_refl _)
  refine g_callV hX (pc := 10) kX10_termAt (mt_Log_termAt E l rl13 la25 (lT (mL M)) (lV (mL M)) (lB (mL M)) (lBT (mL M)) sp26 fz ges27 wl18 (lLast (mL M)) g31 hE28 (hg32) (by omega) (by omega)) q1044 fcX10 (sp_mem (i := 0) rfl) [0, 0, 7] rfl rfl rfl (Nat.le_of_ble_eq_true rfl) (Nat.le_of_ble_eq_true rfl) (Nat.le_of_ble_eq_true rfl) (by omega) (by omega) dX2_ask_10 (fun v w1 hp => ?_)
  obtain ⟨rfl, rfl⟩ := hp
  refine g_nrm (cs1 := [[(rl13, ob 9 [.ref la25, .int (lT (mL M)), .int (lV (mL M)), .int (nI (lB (mL M))), .int (lBT (mL M)), .ref sp26])], wl18, fz, [(n, ob 1 [.ref lm, .ref lb, .ref lr, .int (Prod.snd B), .int nw])], [(m, ob 8 [.int (nI (mN M)), .ref rn11, .ref rk12, .ref rl13, .ref rs14, .ref rst15, .int (mR M), .int (mVt M), .int (nI (mSu M)), .int (nI (mDn M)), .int (bI (mLz M))])], [(rn11, iA (aC E 0) 5 fn16)], [(rk12, iA (aC E 0) 5 fk17)], ws19, wst20, wb]) (st1 := [.int (if (lLast (mL M)) = (lB (mL M)) then (lBT (mL M)) else g31.2.1)]) rfl rfl ?_
  refine g_eqi (lTmA (mL M) (lLast (mL M))) (ht33) ?_
  refine g_istore hX (pc := 13) (lv1 := [(4, .int (lTmA (mL M) (lLast (mL M)))), (3, .ref rl13), (0, .ref n), (1, .ref m), (2, .ref a)]) dX2_ask_13 (by decide) rfl ?_
  refine g_aload_n hX (pc := 15) dX2_ask_15 1 rfl ?_
  refine g_getN hX (pc := 16) fcX10 0 rfl 2 (by decide) q848 rfl (v := .int (lV (mL M))) rfl dX2_ask_16 ?_
  refine g_iconst hX (pc := 19) (v := (-1)) dX2_ask_19 (by decide) ?_
  refine g_val (v := if (lV (mL M)) = (-1) then 1 else (if (lV (mL M)) = (nI (gF g)) then 1 else 0)) (pcJ := 39) (st1 := []) (fun hj34 => ?_) ?_
  · refine g_icmp_eq hX (pc := 20) (tgt := 34) dX2_ask_20 rfl (fun c35 => ?_) (fun c35 => ?_)
    · refine g_iconst hX (pc := 34) (v := 1) dX2_ask_34 (by decide) ?_
      refine g_goto hX (pc := 35) (tgt := 39) dX2_ask_35 rfl ?_
      exact hj34 _ (by rw [if_pos c35])
    · refine g_aload_n hX (pc := 23) dX2_ask_23 1 rfl ?_
      refine g_getN hX (pc := 24) fcX10 0 rfl 2 (by decide) q848 rfl (v := .int (lV (mL M))) rfl dX2_ask_24 ?_
      refine g_aload_n hX (pc := 27) dX2_ask_27 4 rfl ?_
      refine g_getNm hX (pc := 28) fcX13 (sp_in 2 rfl k15) 1 (by decide) q1059 rfl (v := .int (nI (gF g))) rfl dX2_ask_28 ?_
      refine g_icmp_ne hX (pc := 31) (tgt := 38) dX2_ask_31 rfl (fun c36 => ?_) (fun c36 => ?_)
      · refine g_iconst hX (pc := 38) (v := 0) dX2_ask_38 (by decide) ?_
        exact hj34 _ (by rw [if_neg c35, if_neg c36])
      · refine g_iconst hX (pc := 34) (v := 1) dX2_ask_34 (by decide) ?_
        refine g_goto hX (pc := 35) (tgt := 39) dX2_ask_35 rfl ?_
        exact hj34 _ (by rw [if_neg c35, if_pos c36])
  refine g_eqi (bI (askFree M g)) (askFree_v) ?_
  refine g_istore hX (pc := 39) (lv1 := [(5, .int (bI (askFree M g))), (4, .int (lTmA (mL M) (lLast (mL M)))), (3, .ref rl13), (0, .ref n), (1, .ref m), (2, .ref a)]) dX2_ask_39 (by decide) rfl ?_
  refine g_aload_n hX (pc := 41) dX2_ask_41 5 rfl ?_
  refine g_getNm hX (pc := 42) fcX13 (sp_in 2 rfl k15) 5 (by decide) q1067 rfl (v := .int (gIt g)) rfl dX2_ask_42 ?_
  refine g_iload hX (pc := 45) dX2_ask_45 1 rfl ?_
  refine g_icmp_gt hX (pc := 47) (tgt := 70) dX2_ask_47 rfl (fun c37 => ?_) (fun c37 => ?_)
  · refine g_iconst hX (pc := 70) (v := 1) dX2_ask_70 (by decide) ?_
    refine g_goto hX (pc := 71) (tgt := 75) dX2_ask_71 rfl ?_
    refine g_eqi (bI (askNewB M g)) (askNew_1 (Or.inl c37)) ?_
    refine g_istore hX (pc := 75) (lv1 := [(6, .int (bI (askNewB M g))), (5, .int (bI (askFree M g))), (4, .int (lTmA (mL M) (lLast (mL M)))), (3, .ref rl13), (0, .ref n), (1, .ref m), (2, .ref a)]) dX2_ask_75 (by decide) rfl ?_
    refine g_aload_n hX (pc := 77) dX2_ask_77 6 rfl ?_
    refine g_getNm hX (pc := 78) fcX13 (sp_in 2 rfl k15) 3 (by decide) q1063 rfl (v := .int (gTm g)) rfl dX2_ask_78 ?_
    refine g_aload_n hX (pc := 81) dX2_ask_81 3 rfl ?_
    refine g_getN hX (pc := 82) fcX10 0 rfl 1 (by decide) q844 rfl (v := .int (lT (mL M))) rfl dX2_ask_82 ?_
    refine g_val (v := if (gTm g) = (lT (mL M)) then (if (askFree M g) = false then 0 else (if (askNewB M g) = false then 0 else 1)) else 0) (pcJ := 103) (st1 := []) (fun hj38 => ?_) ?_
    · refine g_icmp_ne hX (pc := 85) (tgt := 102) dX2_ask_85 rfl (fun c39 => ?_) (fun c39 => ?_)
      · refine g_iconst hX (pc := 102) (v := 0) dX2_ask_102 (by decide) ?_
        exact hj38 _ (by rw [if_neg c39])
      · refine g_iload hX (pc := 88) dX2_ask_88 1 rfl ?_
        refine g_if_eq hX (pc := 90) (tgt := 102) dX2_ask_90 rfl (fun c40_ => ?_) (fun c40_ => ?_)
        · have c40 := bI_0.mp c40_
          refine g_iconst hX (pc := 102) (v := 0) dX2_ask_102 (by decide) ?_
          exact hj38 _ (by rw [if_pos c39, if_pos c40])
        · have c40 := mt bI_0.mpr c40_
          refine g_iload hX (pc := 93) dX2_ask_93 0 rfl ?_
          refine g_if_eq hX (pc := 95) (tgt := 102) dX2_ask_95 rfl (fun c41_ => ?_) (fun c41_ => ?_)
          · have c41 := bI_0.mp c41_
            refine g_iconst hX (pc := 102) (v := 0) dX2_ask_102 (by decide) ?_
            exact hj38 _ (by rw [if_pos c39, if_neg c40, if_pos c41])
          · have c41 := mt bI_0.mpr c41_
            refine g_iconst hX (pc := 98) (v := 1) dX2_ask_98 (by decide) ?_
            refine g_goto hX (pc := 99) (tgt := 103) dX2_ask_99 rfl ?_
            exact hj38 _ (by rw [if_pos c39, if_neg c40, if_neg c41])
    refine g_eqi (bI (askYes M g)) (askYes_v) ?_
    refine g_istore hX (pc := 103) (lv1 := [(7, .int (bI (askYes M g))), (6, .int (bI (askNewB M g))), (5, .int (bI (askFree M g))), (4, .int (lTmA (mL M) (lLast (mL M)))), (3, .ref rl13), (0, .ref n), (1, .ref m), (2, .ref a)]) dX2_ask_103 (by decide) rfl ?_
    refine g_aload_n hX (pc := 105) dX2_ask_105 4 rfl ?_
    refine g_iload hX (pc := 106) dX2_ask_106 0 rfl ?_
    refine g_val (v := if (askYes M g) = false then (lV (mL M)) else (nI (gF g))) (pcJ := 122) (st1 := [.ref rl13]) (fun hj42 => ?_) ?_
    · refine g_if_eq hX (pc := 108) (tgt := 118) dX2_ask_108 rfl (fun c43_ => ?_) (fun c43_ => ?_)
      · have c43 := bI_0.mp c43_
        refine g_aload_n hX (pc := 118) dX2_ask_118 4 rfl ?_
        refine g_getN hX (pc := 119) fcX10 0 rfl 2 (by decide) q848 rfl (v := .int (lV (mL M))) rfl dX2_ask_119 ?_
        exact hj42 _ (by rw [if_pos c43])
      · have c43 := mt bI_0.mpr c43_
        refine g_aload_n hX (pc := 111) dX2_ask_111 7 rfl ?_
        refine g_getNm hX (pc := 112) fcX13 (sp_in 2 rfl k15) 1 (by decide) q1059 rfl (v := .int (nI (gF g))) rfl dX2_ask_112 ?_
        refine g_goto hX (pc := 115) (tgt := 122) dX2_ask_115 rfl ?_
        exact hj42 _ (by rw [if_neg c43])
    refine g_eqi (if askYes M g = true then nI (gF g) else lV (mL M)) (by cases askYes M g <;> rfl) ?_
    refine g_putN hX (pc := 122) fcX10 0 (fs1 := [.ref la25, .int (lT (mL M)), .int (if askYes M g = true then nI (gF g) else lV (mL M)), .int (nI (lB (mL M))), .int (lBT (mL M)), .ref sp26]) (cs1 := [[(rl13, ob 9 [.ref la25, .int (lT (mL M)), .int (if askYes M g = true then nI (gF g) else lV (mL M)), .int (nI (lB (mL M))), .int (lBT (mL M)), .ref sp26])], wl18, fz, [(n, ob 1 [.ref lm, .ref lb, .ref lr, .int (Prod.snd B), .int nw])], [(m, ob 8 [.int (nI (mN M)), .ref rn11, .ref rk12, .ref rl13, .ref rs14, .ref rst15, .int (mR M), .int (mVt M), .int (nI (mSu M)), .int (nI (mDn M)), .int (bI (mLz M))])], [(rn11, iA (aC E 0) 5 fn16)], [(rk12, iA (aC E 0) 5 fk17)], ws19, wst20, wb]) rfl 2 (by decide) q848 rfl rfl rfl rfl (Nat.le_of_ble_eq_true rfl) rfl rfl dX2_ask_122 ?_
    refine g_pk [4, 4, 4, 0, 0, 2, 2] rfl ?_
    refine g_cs (cs1 := [[(m, ob 8 [.int (nI (mN M)), .ref rn11, .ref rk12, .ref rl13, .ref rs14, .ref rst15, .int (mR M), .int (mVt M), .int (nI (mSu M)), .int (nI (mDn M)), .int (bI (mLz M))])], [(rn11, iA (aC E 0) 5 fn16)], [(rk12, iA (aC E 0) 5 fk17)], [(rl13, ob 9 [.ref la25, .int (lT (mL M)), .int (if askYes M g = true then nI (gF g) else lV (mL M)), .int (nI (lB (mL M))), .int (lBT (mL M)), .ref sp26])], wl18, ws19, wst20, fz, [(n, ob 1 [.ref lm, .ref lb, .ref lr, .int (Prod.snd B), .int nw])], wb]) rfl ?_
    refine g_fl (cs1 := [((m, ob 8 [.int (nI (mN M)), .ref rn11, .ref rk12, .ref rl13, .ref rs14, .ref rst15, .int (mR M), .int (mVt M), .int (nI (mSu M)), .int (nI (mDn M)), .int (bI (mLz M))]) :: (rn11, iA (aC E 0) 5 fn16) :: (rk12, iA (aC E 0) 5 fk17) :: (((rl13, ob 9 [.ref la25, .int (lT (mL M)), .int (if askYes M g = true then nI (gF g) else lV (mL M)), .int (nI (lB (mL M))), .int (lBT (mL M)), .ref sp26]) :: wl18) ++ (ws19 ++ wst20))), fz, [(n, ob 1 [.ref lm, .ref lb, .ref lr, .int (Prod.snd B), .int nw])], wb]) (by simp only [List.flatten_cons, List.flatten_nil, List.cons_append, List.append_assoc, List.nil_append, List.append_nil]) ?_
    have hM44 : IsMach E fz m (mVoted M g) ((m, ob 8 [.int (nI (mN M)), .ref rn11, .ref rk12, .ref rl13, .ref rs14, .ref rst15, .int (mR M), .int (mVt M), .int (nI (mSu M)), .int (nI (mDn M)), .int (bI (mLz M))]) :: (rn11, iA (aC E 0) 5 fn16) :: (rk12, iA (aC E 0) 5 fk17) :: (((rl13, ob 9 [.ref la25, .int (lT (mL M)), .int (if askYes M g = true then nI (gF g) else lV (mL M)), .int (nI (lB (mL M))), .int (lBT (mL M)), .ref sp26]) :: wl18) ++ (ws19 ++ wst20))) := ⟨_, _, _, _, _, _, _, _, _, _, hn21, ⟨_, _, _, _, hE28, hges29, hsp30, rfl⟩, hV23, hS24, rfl⟩
    generalize ((m, ob 8 [.int (nI (mN M)), .ref rn11, .ref rk12, .ref rl13, .ref rs14, .ref rst15, .int (mR M), .int (mVt M), .int (nI (mSu M)), .int (nI (mDn M)), .int (bI (mLz M))]) :: (rn11, iA (aC E 0) 5 fn16) :: (rk12, iA (aC E 0) 5 fk17) :: (((rl13, ob 9 [.ref la25, .int (lT (mL M)), .int (if askYes M g = true then nI (gF g) else lV (mL M)), .int (nI (lB (mL M))), .int (lBT (mL M)), .ref sp26]) :: wl18) ++ (ws19 ++ wst20))) = wk45 at hM44 ⊢
    refine g_aload_n hX (pc := 125) dX2_ask_125 5 rfl ?_
    refine g_aload_n hX (pc := 126) dX2_ask_126 6 rfl ?_
    refine g_aload_n hX (pc := 127) dX2_ask_127 7 rfl ?_
    refine g_gets hX (pc := 128) (v := .ref (aW E 1)) ((cx_gs hX).2.1.1 1 (by decide)).1 q1209 rfl dX2_ask_128 ?_
    refine g_iload hX (pc := 131) dX2_ask_131 0 rfl ?_
    refine g_iconst hX (pc := 133) (v := 0) dX2_ask_133 (by decide) ?_
    refine g_eqi (nI 0) (nI_0.symm) ?_
    refine g_callV hX (pc := 134) kX2_answer (mt_Net_answer E l n lm lb lr nw m (mVoted M g) wk45 fz B wb a g 1 (askYes M g) 0 hM44 hB hg (by omega)) q1211 fcX2 (sp_mem (i := 2) rfl) [2, 0, 1, 0] rfl rfl rfl (Nat.le_of_ble_eq_true rfl) (Nat.le_of_ble_eq_true rfl) (Nat.le_of_ble_eq_true rfl) (by omega) (by omega) dX2_ask_134 (fun v w1 hp => ?_)
    obtain ⟨fz146, w147, w248, h49, h50, h51, rfl, rfl⟩ := hp
    refine g_nrm (cs1 := [[(n, ob 1 [.ref lm, .ref lb, .ref lr, .int (Prod.snd (bSend B (mkA 1 (mVoted M g) (gF g) (askYes M g) 0))), .int nw])], w147, w248, fz146]) (st1 := []) rfl rfl ?_
    have h52 := BL.mono h49 hB
    have h53 := MsgIn.mono h49 hg
    have h54 := StIn.mono h49 k610
    have h55 := StIn.mono h49 hsp30
    have h56 := IsMach.mono h49 hM44
    refine g_vret hX (pc := 137) hR ?_ (by omega) (by omega) dX2_ask_137
    exact ⟨_, _, _, h49, h50, h51, rfl, rfl⟩
  · refine g_aload_n hX (pc := 50) dX2_ask_50 5 rfl ?_
    refine g_getNm hX (pc := 51) fcX13 (sp_in 2 rfl k15) 5 (by decide) q1067 rfl (v := .int (gIt g)) rfl dX2_ask_51 ?_
    refine g_iload hX (pc := 54) dX2_ask_54 1 rfl ?_
    refine g_icmp_ne hX (pc := 56) (tgt := 74) dX2_ask_56 rfl (fun c57 => ?_) (fun c57 => ?_)
    · refine g_iconst hX (pc := 74) (v := 0) dX2_ask_74 (by decide) ?_
      refine g_eqi (bI (askNewB M g)) (askNew_0 (fun z => z.elim (fun z => c37 z) (fun z => c57 z.1))) ?_
      refine g_istore hX (pc := 75) (lv1 := [(6, .int (bI (askNewB M g))), (5, .int (bI (askFree M g))), (4, .int (lTmA (mL M) (lLast (mL M)))), (3, .ref rl13), (0, .ref n), (1, .ref m), (2, .ref a)]) dX2_ask_75 (by decide) rfl ?_
      refine g_aload_n hX (pc := 77) dX2_ask_77 6 rfl ?_
      refine g_getNm hX (pc := 78) fcX13 (sp_in 2 rfl k15) 3 (by decide) q1063 rfl (v := .int (gTm g)) rfl dX2_ask_78 ?_
      refine g_aload_n hX (pc := 81) dX2_ask_81 3 rfl ?_
      refine g_getN hX (pc := 82) fcX10 0 rfl 1 (by decide) q844 rfl (v := .int (lT (mL M))) rfl dX2_ask_82 ?_
      refine g_val (v := if (gTm g) = (lT (mL M)) then (if (askFree M g) = false then 0 else (if (askNewB M g) = false then 0 else 1)) else 0) (pcJ := 103) (st1 := []) (fun hj58 => ?_) ?_
      · refine g_icmp_ne hX (pc := 85) (tgt := 102) dX2_ask_85 rfl (fun c59 => ?_) (fun c59 => ?_)
        · refine g_iconst hX (pc := 102) (v := 0) dX2_ask_102 (by decide) ?_
          exact hj58 _ (by rw [if_neg c59])
        · refine g_iload hX (pc := 88) dX2_ask_88 1 rfl ?_
          refine g_if_eq hX (pc := 90) (tgt := 102) dX2_ask_90 rfl (fun c60_ => ?_) (fun c60_ => ?_)
          · have c60 := bI_0.mp c60_
            refine g_iconst hX (pc := 102) (v := 0) dX2_ask_102 (by decide) ?_
            exact hj58 _ (by rw [if_pos c59, if_pos c60])
          · have c60 := mt bI_0.mpr c60_
            refine g_iload hX (pc := 93) dX2_ask_93 0 rfl ?_
            refine g_if_eq hX (pc := 95) (tgt := 102) dX2_ask_95 rfl (fun c61_ => ?_) (fun c61_ => ?_)
            · have c61 := bI_0.mp c61_
              refine g_iconst hX (pc := 102) (v := 0) dX2_ask_102 (by decide) ?_
              exact hj58 _ (by rw [if_pos c59, if_neg c60, if_pos c61])
            · have c61 := mt bI_0.mpr c61_
              refine g_iconst hX (pc := 98) (v := 1) dX2_ask_98 (by decide) ?_
              refine g_goto hX (pc := 99) (tgt := 103) dX2_ask_99 rfl ?_
              exact hj58 _ (by rw [if_pos c59, if_neg c60, if_neg c61])
      refine g_eqi (bI (askYes M g)) (askYes_v) ?_
      refine g_istore hX (pc := 103) (lv1 := [(7, .int (bI (askYes M g))), (6, .int (bI (askNewB M g))), (5, .int (bI (askFree M g))), (4, .int (lTmA (mL M) (lLast (mL M)))), (3, .ref rl13), (0, .ref n), (1, .ref m), (2, .ref a)]) dX2_ask_103 (by decide) rfl ?_
      refine g_aload_n hX (pc := 105) dX2_ask_105 4 rfl ?_
      refine g_iload hX (pc := 106) dX2_ask_106 0 rfl ?_
      refine g_val (v := if (askYes M g) = false then (lV (mL M)) else (nI (gF g))) (pcJ := 122) (st1 := [.ref rl13]) (fun hj62 => ?_) ?_
      · refine g_if_eq hX (pc := 108) (tgt := 118) dX2_ask_108 rfl (fun c63_ => ?_) (fun c63_ => ?_)
        · have c63 := bI_0.mp c63_
          refine g_aload_n hX (pc := 118) dX2_ask_118 4 rfl ?_
          refine g_getN hX (pc := 119) fcX10 0 rfl 2 (by decide) q848 rfl (v := .int (lV (mL M))) rfl dX2_ask_119 ?_
          exact hj62 _ (by rw [if_pos c63])
        · have c63 := mt bI_0.mpr c63_
          refine g_aload_n hX (pc := 111) dX2_ask_111 7 rfl ?_
          refine g_getNm hX (pc := 112) fcX13 (sp_in 2 rfl k15) 1 (by decide) q1059 rfl (v := .int (nI (gF g))) rfl dX2_ask_112 ?_
          refine g_goto hX (pc := 115) (tgt := 122) dX2_ask_115 rfl ?_
          exact hj62 _ (by rw [if_neg c63])
      refine g_eqi (if askYes M g = true then nI (gF g) else lV (mL M)) (by cases askYes M g <;> rfl) ?_
      refine g_putN hX (pc := 122) fcX10 0 (fs1 := [.ref la25, .int (lT (mL M)), .int (if askYes M g = true then nI (gF g) else lV (mL M)), .int (nI (lB (mL M))), .int (lBT (mL M)), .ref sp26]) (cs1 := [[(rl13, ob 9 [.ref la25, .int (lT (mL M)), .int (if askYes M g = true then nI (gF g) else lV (mL M)), .int (nI (lB (mL M))), .int (lBT (mL M)), .ref sp26])], wl18, fz, [(n, ob 1 [.ref lm, .ref lb, .ref lr, .int (Prod.snd B), .int nw])], [(m, ob 8 [.int (nI (mN M)), .ref rn11, .ref rk12, .ref rl13, .ref rs14, .ref rst15, .int (mR M), .int (mVt M), .int (nI (mSu M)), .int (nI (mDn M)), .int (bI (mLz M))])], [(rn11, iA (aC E 0) 5 fn16)], [(rk12, iA (aC E 0) 5 fk17)], ws19, wst20, wb]) rfl 2 (by decide) q848 rfl rfl rfl rfl (Nat.le_of_ble_eq_true rfl) rfl rfl dX2_ask_122 ?_
      refine g_pk [4, 4, 4, 0, 0, 2, 2] rfl ?_
      refine g_cs (cs1 := [[(m, ob 8 [.int (nI (mN M)), .ref rn11, .ref rk12, .ref rl13, .ref rs14, .ref rst15, .int (mR M), .int (mVt M), .int (nI (mSu M)), .int (nI (mDn M)), .int (bI (mLz M))])], [(rn11, iA (aC E 0) 5 fn16)], [(rk12, iA (aC E 0) 5 fk17)], [(rl13, ob 9 [.ref la25, .int (lT (mL M)), .int (if askYes M g = true then nI (gF g) else lV (mL M)), .int (nI (lB (mL M))), .int (lBT (mL M)), .ref sp26])], wl18, ws19, wst20, fz, [(n, ob 1 [.ref lm, .ref lb, .ref lr, .int (Prod.snd B), .int nw])], wb]) rfl ?_
      refine g_fl (cs1 := [((m, ob 8 [.int (nI (mN M)), .ref rn11, .ref rk12, .ref rl13, .ref rs14, .ref rst15, .int (mR M), .int (mVt M), .int (nI (mSu M)), .int (nI (mDn M)), .int (bI (mLz M))]) :: (rn11, iA (aC E 0) 5 fn16) :: (rk12, iA (aC E 0) 5 fk17) :: (((rl13, ob 9 [.ref la25, .int (lT (mL M)), .int (if askYes M g = true then nI (gF g) else lV (mL M)), .int (nI (lB (mL M))), .int (lBT (mL M)), .ref sp26]) :: wl18) ++ (ws19 ++ wst20))), fz, [(n, ob 1 [.ref lm, .ref lb, .ref lr, .int (Prod.snd B), .int nw])], wb]) (by simp only [List.flatten_cons, List.flatten_nil, List.cons_append, List.append_assoc, List.nil_append, List.append_nil]) ?_
      have hM64 : IsMach E fz m (mVoted M g) ((m, ob 8 [.int (nI (mN M)), .ref rn11, .ref rk12, .ref rl13, .ref rs14, .ref rst15, .int (mR M), .int (mVt M), .int (nI (mSu M)), .int (nI (mDn M)), .int (bI (mLz M))]) :: (rn11, iA (aC E 0) 5 fn16) :: (rk12, iA (aC E 0) 5 fk17) :: (((rl13, ob 9 [.ref la25, .int (lT (mL M)), .int (if askYes M g = true then nI (gF g) else lV (mL M)), .int (nI (lB (mL M))), .int (lBT (mL M)), .ref sp26]) :: wl18) ++ (ws19 ++ wst20))) := ⟨_, _, _, _, _, _, _, _, _, _, hn21, ⟨_, _, _, _, hE28, hges29, hsp30, rfl⟩, hV23, hS24, rfl⟩
      generalize ((m, ob 8 [.int (nI (mN M)), .ref rn11, .ref rk12, .ref rl13, .ref rs14, .ref rst15, .int (mR M), .int (mVt M), .int (nI (mSu M)), .int (nI (mDn M)), .int (bI (mLz M))]) :: (rn11, iA (aC E 0) 5 fn16) :: (rk12, iA (aC E 0) 5 fk17) :: (((rl13, ob 9 [.ref la25, .int (lT (mL M)), .int (if askYes M g = true then nI (gF g) else lV (mL M)), .int (nI (lB (mL M))), .int (lBT (mL M)), .ref sp26]) :: wl18) ++ (ws19 ++ wst20))) = wk65 at hM64 ⊢
      refine g_aload_n hX (pc := 125) dX2_ask_125 5 rfl ?_
      refine g_aload_n hX (pc := 126) dX2_ask_126 6 rfl ?_
      refine g_aload_n hX (pc := 127) dX2_ask_127 7 rfl ?_
      refine g_gets hX (pc := 128) (v := .ref (aW E 1)) ((cx_gs hX).2.1.1 1 (by decide)).1 q1209 rfl dX2_ask_128 ?_
      refine g_iload hX (pc := 131) dX2_ask_131 0 rfl ?_
      refine g_iconst hX (pc := 133) (v := 0) dX2_ask_133 (by decide) ?_
      refine g_eqi (nI 0) (nI_0.symm) ?_
      refine g_callV hX (pc := 134) kX2_answer (mt_Net_answer E l n lm lb lr nw m (mVoted M g) wk65 fz B wb a g 1 (askYes M g) 0 hM64 hB hg (by omega)) q1211 fcX2 (sp_mem (i := 2) rfl) [2, 0, 1, 0] rfl rfl rfl (Nat.le_of_ble_eq_true rfl) (Nat.le_of_ble_eq_true rfl) (Nat.le_of_ble_eq_true rfl) (by omega) (by omega) dX2_ask_134 (fun v w1 hp => ?_)
      obtain ⟨fz166, w167, w268, h69, h70, h71, rfl, rfl⟩ := hp
      refine g_nrm (cs1 := [[(n, ob 1 [.ref lm, .ref lb, .ref lr, .int (Prod.snd (bSend B (mkA 1 (mVoted M g) (gF g) (askYes M g) 0))), .int nw])], w167, w268, fz166]) (st1 := []) rfl rfl ?_
      have h72 := BL.mono h69 hB
      have h73 := MsgIn.mono h69 hg
      have h74 := StIn.mono h69 k610
      have h75 := StIn.mono h69 hsp30
      have h76 := IsMach.mono h69 hM64
      refine g_vret hX (pc := 137) hR ?_ (by omega) (by omega) dX2_ask_137
      exact ⟨_, _, _, h69, h70, h71, rfl, rfl⟩
    · refine g_aload_n hX (pc := 59) dX2_ask_59 5 rfl ?_
      refine g_getNm hX (pc := 60) fcX13 (sp_in 2 rfl k15) 4 (by decide) q1065 rfl (v := .int (nI (gN g))) rfl dX2_ask_60 ?_
      refine g_aload_n hX (pc := 63) dX2_ask_63 2 rfl ?_
      refine g_callV hX (pc := 64) kX10_last (mt_Log_last E l rl13 la25 (lT (mL M)) (lV (mL M)) (lB (mL M)) (lBT (mL M)) sp26 fz ges27 wl18 hE28) q235 fcX10 (sp_mem (i := 0) rfl) [0, 0] rfl rfl rfl (Nat.le_of_ble_eq_true rfl) (Nat.le_of_ble_eq_true rfl) (Nat.le_of_ble_eq_true rfl) (by omega) (by omega) dX2_ask_64 (fun v w1 hp => ?_)
      obtain ⟨rfl, rfl⟩ := hp
      refine g_nrm (cs1 := [[(rl13, ob 9 [.ref la25, .int (lT (mL M)), .int (lV (mL M)), .int (nI (lB (mL M))), .int (lBT (mL M)), .ref sp26])], wl18, fz, [(n, ob 1 [.ref lm, .ref lb, .ref lr, .int (Prod.snd B), .int nw])], [(m, ob 8 [.int (nI (mN M)), .ref rn11, .ref rk12, .ref rl13, .ref rs14, .ref rst15, .int (mR M), .int (mVt M), .int (nI (mSu M)), .int (nI (mDn M)), .int (bI (mLz M))])], [(rn11, iA (aC E 0) 5 fn16)], [(rk12, iA (aC E 0) 5 fk17)], ws19, wst20, wb]) (st1 := [.int (nI ((lB (mL M)) + List.length ges27)), .int (nI (gN g))]) rfl rfl ?_
      refine g_eqi (nI (lLast (mL M))) (by rw [hl_ges27]) ?_
      refine g_val (v := if (nI (gN g)) < (nI (lLast (mL M))) then 0 else 1) (pcJ := 75) (st1 := []) (fun hj77 => ?_) ?_
      · refine g_icmp_lt hX (pc := 67) (tgt := 74) dX2_ask_67 rfl (fun c78 => ?_) (fun c78 => ?_)
        · refine g_iconst hX (pc := 74) (v := 0) dX2_ask_74 (by decide) ?_
          exact hj77 _ (by rw [if_pos c78])
        · refine g_iconst hX (pc := 70) (v := 1) dX2_ask_70 (by decide) ?_
          refine g_goto hX (pc := 71) (tgt := 75) dX2_ask_71 rfl ?_
          exact hj77 _ (by rw [if_neg c78])
      refine g_eqi (bI (askNewB M g)) (askNew_i c37 c57 (by omega) (by omega)) ?_
      refine g_istore hX (pc := 75) (lv1 := [(6, .int (bI (askNewB M g))), (5, .int (bI (askFree M g))), (4, .int (lTmA (mL M) (lLast (mL M)))), (3, .ref rl13), (0, .ref n), (1, .ref m), (2, .ref a)]) dX2_ask_75 (by decide) rfl ?_
      refine g_aload_n hX (pc := 77) dX2_ask_77 6 rfl ?_
      refine g_getNm hX (pc := 78) fcX13 (sp_in 2 rfl k15) 3 (by decide) q1063 rfl (v := .int (gTm g)) rfl dX2_ask_78 ?_
      refine g_aload_n hX (pc := 81) dX2_ask_81 3 rfl ?_
      refine g_getN hX (pc := 82) fcX10 0 rfl 1 (by decide) q844 rfl (v := .int (lT (mL M))) rfl dX2_ask_82 ?_
      refine g_val (v := if (gTm g) = (lT (mL M)) then (if (askFree M g) = false then 0 else (if (askNewB M g) = false then 0 else 1)) else 0) (pcJ := 103) (st1 := []) (fun hj79 => ?_) ?_
      · refine g_icmp_ne hX (pc := 85) (tgt := 102) dX2_ask_85 rfl (fun c80 => ?_) (fun c80 => ?_)
        · refine g_iconst hX (pc := 102) (v := 0) dX2_ask_102 (by decide) ?_
          exact hj79 _ (by rw [if_neg c80])
        · refine g_iload hX (pc := 88) dX2_ask_88 1 rfl ?_
          refine g_if_eq hX (pc := 90) (tgt := 102) dX2_ask_90 rfl (fun c81_ => ?_) (fun c81_ => ?_)
          · have c81 := bI_0.mp c81_
            refine g_iconst hX (pc := 102) (v := 0) dX2_ask_102 (by decide) ?_
            exact hj79 _ (by rw [if_pos c80, if_pos c81])
          · have c81 := mt bI_0.mpr c81_
            refine g_iload hX (pc := 93) dX2_ask_93 0 rfl ?_
            refine g_if_eq hX (pc := 95) (tgt := 102) dX2_ask_95 rfl (fun c82_ => ?_) (fun c82_ => ?_)
            · have c82 := bI_0.mp c82_
              refine g_iconst hX (pc := 102) (v := 0) dX2_ask_102 (by decide) ?_
              exact hj79 _ (by rw [if_pos c80, if_neg c81, if_pos c82])
            · have c82 := mt bI_0.mpr c82_
              refine g_iconst hX (pc := 98) (v := 1) dX2_ask_98 (by decide) ?_
              refine g_goto hX (pc := 99) (tgt := 103) dX2_ask_99 rfl ?_
              exact hj79 _ (by rw [if_pos c80, if_neg c81, if_neg c82])
      refine g_eqi (bI (askYes M g)) (askYes_v) ?_
      refine g_istore hX (pc := 103) (lv1 := [(7, .int (bI (askYes M g))), (6, .int (bI (askNewB M g))), (5, .int (bI (askFree M g))), (4, .int (lTmA (mL M) (lLast (mL M)))), (3, .ref rl13), (0, .ref n), (1, .ref m), (2, .ref a)]) dX2_ask_103 (by decide) rfl ?_
      refine g_aload_n hX (pc := 105) dX2_ask_105 4 rfl ?_
      refine g_iload hX (pc := 106) dX2_ask_106 0 rfl ?_
      refine g_val (v := if (askYes M g) = false then (lV (mL M)) else (nI (gF g))) (pcJ := 122) (st1 := [.ref rl13]) (fun hj83 => ?_) ?_
      · refine g_if_eq hX (pc := 108) (tgt := 118) dX2_ask_108 rfl (fun c84_ => ?_) (fun c84_ => ?_)
        · have c84 := bI_0.mp c84_
          refine g_aload_n hX (pc := 118) dX2_ask_118 4 rfl ?_
          refine g_getN hX (pc := 119) fcX10 0 rfl 2 (by decide) q848 rfl (v := .int (lV (mL M))) rfl dX2_ask_119 ?_
          exact hj83 _ (by rw [if_pos c84])
        · have c84 := mt bI_0.mpr c84_
          refine g_aload_n hX (pc := 111) dX2_ask_111 7 rfl ?_
          refine g_getNm hX (pc := 112) fcX13 (sp_in 2 rfl k15) 1 (by decide) q1059 rfl (v := .int (nI (gF g))) rfl dX2_ask_112 ?_
          refine g_goto hX (pc := 115) (tgt := 122) dX2_ask_115 rfl ?_
          exact hj83 _ (by rw [if_neg c84])
      refine g_eqi (if askYes M g = true then nI (gF g) else lV (mL M)) (by cases askYes M g <;> rfl) ?_
      refine g_putN hX (pc := 122) fcX10 0 (fs1 := [.ref la25, .int (lT (mL M)), .int (if askYes M g = true then nI (gF g) else lV (mL M)), .int (nI (lB (mL M))), .int (lBT (mL M)), .ref sp26]) (cs1 := [[(rl13, ob 9 [.ref la25, .int (lT (mL M)), .int (if askYes M g = true then nI (gF g) else lV (mL M)), .int (nI (lB (mL M))), .int (lBT (mL M)), .ref sp26])], wl18, fz, [(n, ob 1 [.ref lm, .ref lb, .ref lr, .int (Prod.snd B), .int nw])], [(m, ob 8 [.int (nI (mN M)), .ref rn11, .ref rk12, .ref rl13, .ref rs14, .ref rst15, .int (mR M), .int (mVt M), .int (nI (mSu M)), .int (nI (mDn M)), .int (bI (mLz M))])], [(rn11, iA (aC E 0) 5 fn16)], [(rk12, iA (aC E 0) 5 fk17)], ws19, wst20, wb]) rfl 2 (by decide) q848 rfl rfl rfl rfl (Nat.le_of_ble_eq_true rfl) rfl rfl dX2_ask_122 ?_
      refine g_pk [4, 4, 4, 0, 0, 2, 2] rfl ?_
      refine g_cs (cs1 := [[(m, ob 8 [.int (nI (mN M)), .ref rn11, .ref rk12, .ref rl13, .ref rs14, .ref rst15, .int (mR M), .int (mVt M), .int (nI (mSu M)), .int (nI (mDn M)), .int (bI (mLz M))])], [(rn11, iA (aC E 0) 5 fn16)], [(rk12, iA (aC E 0) 5 fk17)], [(rl13, ob 9 [.ref la25, .int (lT (mL M)), .int (if askYes M g = true then nI (gF g) else lV (mL M)), .int (nI (lB (mL M))), .int (lBT (mL M)), .ref sp26])], wl18, ws19, wst20, fz, [(n, ob 1 [.ref lm, .ref lb, .ref lr, .int (Prod.snd B), .int nw])], wb]) rfl ?_
      refine g_fl (cs1 := [((m, ob 8 [.int (nI (mN M)), .ref rn11, .ref rk12, .ref rl13, .ref rs14, .ref rst15, .int (mR M), .int (mVt M), .int (nI (mSu M)), .int (nI (mDn M)), .int (bI (mLz M))]) :: (rn11, iA (aC E 0) 5 fn16) :: (rk12, iA (aC E 0) 5 fk17) :: (((rl13, ob 9 [.ref la25, .int (lT (mL M)), .int (if askYes M g = true then nI (gF g) else lV (mL M)), .int (nI (lB (mL M))), .int (lBT (mL M)), .ref sp26]) :: wl18) ++ (ws19 ++ wst20))), fz, [(n, ob 1 [.ref lm, .ref lb, .ref lr, .int (Prod.snd B), .int nw])], wb]) (by simp only [List.flatten_cons, List.flatten_nil, List.cons_append, List.append_assoc, List.nil_append, List.append_nil]) ?_
      have hM85 : IsMach E fz m (mVoted M g) ((m, ob 8 [.int (nI (mN M)), .ref rn11, .ref rk12, .ref rl13, .ref rs14, .ref rst15, .int (mR M), .int (mVt M), .int (nI (mSu M)), .int (nI (mDn M)), .int (bI (mLz M))]) :: (rn11, iA (aC E 0) 5 fn16) :: (rk12, iA (aC E 0) 5 fk17) :: (((rl13, ob 9 [.ref la25, .int (lT (mL M)), .int (if askYes M g = true then nI (gF g) else lV (mL M)), .int (nI (lB (mL M))), .int (lBT (mL M)), .ref sp26]) :: wl18) ++ (ws19 ++ wst20))) := ⟨_, _, _, _, _, _, _, _, _, _, hn21, ⟨_, _, _, _, hE28, hges29, hsp30, rfl⟩, hV23, hS24, rfl⟩
      generalize ((m, ob 8 [.int (nI (mN M)), .ref rn11, .ref rk12, .ref rl13, .ref rs14, .ref rst15, .int (mR M), .int (mVt M), .int (nI (mSu M)), .int (nI (mDn M)), .int (bI (mLz M))]) :: (rn11, iA (aC E 0) 5 fn16) :: (rk12, iA (aC E 0) 5 fk17) :: (((rl13, ob 9 [.ref la25, .int (lT (mL M)), .int (if askYes M g = true then nI (gF g) else lV (mL M)), .int (nI (lB (mL M))), .int (lBT (mL M)), .ref sp26]) :: wl18) ++ (ws19 ++ wst20))) = wk86 at hM85 ⊢
      refine g_aload_n hX (pc := 125) dX2_ask_125 5 rfl ?_
      refine g_aload_n hX (pc := 126) dX2_ask_126 6 rfl ?_
      refine g_aload_n hX (pc := 127) dX2_ask_127 7 rfl ?_
      refine g_gets hX (pc := 128) (v := .ref (aW E 1)) ((cx_gs hX).2.1.1 1 (by decide)).1 q1209 rfl dX2_ask_128 ?_
      refine g_iload hX (pc := 131) dX2_ask_131 0 rfl ?_
      refine g_iconst hX (pc := 133) (v := 0) dX2_ask_133 (by decide) ?_
      refine g_eqi (nI 0) (nI_0.symm) ?_
      refine g_callV hX (pc := 134) kX2_answer (mt_Net_answer E l n lm lb lr nw m (mVoted M g) wk86 fz B wb a g 1 (askYes M g) 0 hM85 hB hg (by omega)) q1211 fcX2 (sp_mem (i := 2) rfl) [2, 0, 1, 0] rfl rfl rfl (Nat.le_of_ble_eq_true rfl) (Nat.le_of_ble_eq_true rfl) (Nat.le_of_ble_eq_true rfl) (by omega) (by omega) dX2_ask_134 (fun v w1 hp => ?_)
      obtain ⟨fz187, w188, w289, h90, h91, h92, rfl, rfl⟩ := hp
      refine g_nrm (cs1 := [[(n, ob 1 [.ref lm, .ref lb, .ref lr, .int (Prod.snd (bSend B (mkA 1 (mVoted M g) (gF g) (askYes M g) 0))), .int nw])], w188, w289, fz187]) (st1 := []) rfl rfl ?_
      have h93 := BL.mono h90 hB
      have h94 := MsgIn.mono h90 hg
      have h95 := StIn.mono h90 k610
      have h96 := StIn.mono h90 hsp30
      have h97 := IsMach.mono h90 hM85
      refine g_vret hX (pc := 137) hR ?_ (by omega) (by omega) dX2_ask_137
      exact ⟨_, _, _, h90, h91, h92, rfl, rfl⟩

set_option maxHeartbeats 4000000 in
theorem mt_Net_has (E : EE) (l : Launch) (n : Nat) (lm : Nat) (lb : Nat) (lr : Nat) (lo : Int32) (nw : Int32) (m : Nat) (M : PM) (wk : va_W) (fz : va_W) (a : Nat) (g : PMg) (hM : IsMach E fz m M wk) (hg : MsgIn E fz a g) (hf : (gF g < 5)) (hx : (mNx M (gF g) ≤ 1000 ∧ mKp M (gF g) ≤ 1000)) (hl : (lLast (mL M) ≤ 1000)) (hgn : (gN g ≤ 1000)) : Mt E l yX2_has cX2_has 4 none 3 0 0 41 [.ref n, .ref m, .ref a] [[(n, ob 1 [.ref lm, .ref lb, .ref lr, .int lo, .int nw])], wk, fz] (fun (v_ : Option Value) (cs_ : List va_W) => ∃ (w1 : va_W), IsMach E fz m (pHas M g) w1 ∧ v_ = none ∧ cs_ = [[(n, ob 1 [.ref lm, .ref lb, .ref lr, .int lo, .int nw])], w1, fz]) := by
  have hll : lLast (mL M) = lB (mL M) + (lE (mL M)).length := rfl
  refine Mt.of (by decide) (Nat.le_of_ble_eq_true rfl) (fun X hX hR hin => ?_)
  refine g_lv1 (lv1 := [(0, .ref n), (1, .ref m), (2, .ref a)]) rfl ?_
  obtain ⟨ra1, sp2, ges3, f4, k15, k26, k37, k48, k59, k610⟩ := MsgIn.out hg
  obtain ⟨rn11, rk12, rl13, rs14, rst15, fn16, fk17, wl18, ws19, wst20, hn21, hL22, hV23, hS24, rfl⟩ := hM
  obtain ⟨la25, sp26, ges27, wl18, hE28, hges29, hsp30, rfl⟩ := hL22
  refine g_fl (cs1 := [[(n, ob 1 [.ref lm, .ref lb, .ref lr, .int lo, .int nw])], [(m, ob 8 [.int (nI (mN M)), .ref rn11, .ref rk12, .ref rl13, .ref rs14, .ref rst15, .int (mR M), .int (mVt M), .int (nI (mSu M)), .int (nI (mDn M)), .int (bI (mLz M))])], [(rn11, iA (aC E 0) 5 fn16)], [(rk12, iA (aC E 0) 5 fk17)], [(rl13, ob 9 [.ref la25, .int (lT (mL M)), .int (lV (mL M)), .int (nI (lB (mL M))), .int (lBT (mL M)), .ref sp26])], wl18, ws19, wst20, fz]) (by simp only [List.flatten_cons, List.flatten_nil, List.cons_append, List.append_assoc, List.nil_append, List.append_nil]) ?_
  have hl_ges27 : List.length ges27 = List.length (lE (mL M)) := by rw [← hges29, List.length_map]
  refine g_aload_n hX (pc := 0) dX2_has_0 2 rfl ?_
  refine g_getNm hX (pc := 1) fcX13 (sp_in 8 rfl k15) 1 (by decide) q1059 rfl (v := .int (nI (gF g))) rfl dX2_has_1 ?_
  refine g_istore_n hX (pc := 4) (lv1 := [(3, .int (nI (gF g))), (0, .ref n), (1, .ref m), (2, .ref a)]) dX2_has_4 (by decide) rfl ?_
  refine g_aload_n hX (pc := 5) dX2_has_5 3 rfl ?_
  refine g_getNm hX (pc := 6) fcX13 (sp_in 8 rfl k15) 6 (by decide) q1069 rfl (v := .int (bI (gY g))) rfl dX2_has_6 ?_
  refine g_if_ne hX (pc := 9) (tgt := 40) dX2_has_9 rfl (fun c31_ => ?_) (fun c31_ => ?_)
  · have c31 := mt bI_0.mpr c31_
    refine g_aload_n hX (pc := 40) dX2_has_40 2 rfl ?_
    refine g_getN hX (pc := 41) fcX9 1 rfl 2 (by decide) q930 rfl (v := .ref rk12) rfl dX2_has_41 ?_
    refine g_iload_n hX (pc := 44) dX2_has_44 0 rfl ?_
    refine g_aload_n hX (pc := 45) dX2_has_45 2 rfl ?_
    refine g_getN hX (pc := 46) fcX9 1 rfl 2 (by decide) q930 rfl (v := .ref rk12) rfl dX2_has_46 ?_
    refine g_iload_n hX (pc := 49) dX2_has_49 0 rfl ?_
    refine g_iald hX (pc := 50) (sp_mem (i := 3) rfl) (v := fk17 (gF g)) (vp_in_nI (by omega) (by omega)) (by rw [nI_clamp (by omega)]) dX2_has_50 ?_
    refine g_eqi (nI (mKp M (gF g))) ((hn21 _ hf).2) ?_
    refine g_aload_n hX (pc := 51) dX2_has_51 3 rfl ?_
    refine g_getNm hX (pc := 52) fcX13 (sp_in 8 rfl k15) 4 (by decide) q1065 rfl (v := .int (nI (gN g))) rfl dX2_has_52 ?_
    refine g_aload_n hX (pc := 55) dX2_has_55 2 rfl ?_
    refine g_getN hX (pc := 56) fcX9 1 rfl 3 (by decide) q933 rfl (v := .ref rl13) rfl dX2_has_56 ?_
    refine g_callV hX (pc := 59) kX10_last (mt_Log_last E l rl13 la25 (lT (mL M)) (lV (mL M)) (lB (mL M)) (lBT (mL M)) sp26 fz ges27 wl18 hE28) q235 fcX10 (sp_mem (i := 4) rfl) [4, 4] rfl rfl rfl (Nat.le_of_ble_eq_true rfl) (Nat.le_of_ble_eq_true rfl) (Nat.le_of_ble_eq_true rfl) (by omega) (by omega) dX2_has_59 (fun v w1 hp => ?_)
    obtain ⟨rfl, rfl⟩ := hp
    refine g_nrm (cs1 := [[(rl13, ob 9 [.ref la25, .int (lT (mL M)), .int (lV (mL M)), .int (nI (lB (mL M))), .int (lBT (mL M)), .ref sp26])], wl18, [(n, ob 1 [.ref lm, .ref lb, .ref lr, .int lo, .int nw])], [(m, ob 8 [.int (nI (mN M)), .ref rn11, .ref rk12, .ref rl13, .ref rs14, .ref rst15, .int (mR M), .int (mVt M), .int (nI (mSu M)), .int (nI (mDn M)), .int (bI (mLz M))])], [(rn11, iA (aC E 0) 5 fn16)], [(rk12, iA (aC E 0) 5 fk17)], ws19, wst20, fz]) (st1 := [.int (nI ((lB (mL M)) + List.length ges27)), .int (nI (gN g)), .int (nI (mKp M (gF g))), .int (nI (gF g)), .ref rk12]) rfl rfl ?_
    refine g_eqi (nI (lLast (mL M))) (by rw [hl_ges27]) ?_
    refine g_mmin hX (pc := 62) q232 (Nat.le_of_ble_eq_true rfl) (Nat.le_of_ble_eq_true rfl) (by omega) (by omega) q_m1min q_m2 q_m3min dX2_has_62 ?_
    refine g_eqi (nI (min (gN g) (lLast (mL M)))) (al_min (by omega) (by omega)) ?_
    refine g_mmax hX (pc := 65) q241 (Nat.le_of_ble_eq_true rfl) (Nat.le_of_ble_eq_true rfl) (by omega) (by omega) q_m1max q_m2 q_m3max dX2_has_65 ?_
    refine g_eqi (nI (max (mKp M (gF g)) (min (gN g) (lLast (mL M))))) (al_max (by omega) (by omega)) ?_
    refine g_iast hX (pc := 68) (f1 := (upd fk17 (gF g) (nI (max (mKp M (gF g)) (min (gN g) (lLast (mL M))))))) (cs1 := [[(rl13, ob 9 [.ref la25, .int (lT (mL M)), .int (lV (mL M)), .int (nI (lB (mL M))), .int (lBT (mL M)), .ref sp26])], wl18, [(n, ob 1 [.ref lm, .ref lb, .ref lr, .int lo, .int nw])], [(m, ob 8 [.int (nI (mN M)), .ref rn11, .ref rk12, .ref rl13, .ref rs14, .ref rst15, .int (mR M), .int (mVt M), .int (nI (mSu M)), .int (nI (mDn M)), .int (bI (mLz M))])], [(rn11, iA (aC E 0) 5 fn16)], [(rk12, iA (aC E 0) 5 (upd fk17 (gF g) (nI (max (mKp M (gF g)) (min (gN g) (lLast (mL M)))))))], ws19, wst20, fz]) 5 rfl (vp_in_nI (by omega) (by omega)) (by rw [nI_clamp (by omega)]) rfl dX2_has_68 ?_
    refine g_aload_n hX (pc := 69) dX2_has_69 2 rfl ?_
    refine g_getN hX (pc := 70) fcX9 3 rfl 1 (by decide) q928 rfl (v := .ref rn11) rfl dX2_has_70 ?_
    refine g_iload_n hX (pc := 73) dX2_has_73 0 rfl ?_
    refine g_aload_n hX (pc := 74) dX2_has_74 2 rfl ?_
    refine g_getN hX (pc := 75) fcX9 3 rfl 2 (by decide) q930 rfl (v := .ref rk12) rfl dX2_has_75 ?_
    refine g_iload_n hX (pc := 78) dX2_has_78 0 rfl ?_
    refine g_iald hX (pc := 79) (sp_mem (i := 5) rfl) (v := (upd fk17 (gF g) (nI (max (mKp M (gF g)) (min (gN g) (lLast (mL M)))))) (gF g)) (vp_in_nI (by omega) (by omega)) (by rw [nI_clamp (by omega)]) dX2_has_79 ?_
    refine g_eqi (nI (max (mKp M (gF g)) (min (gN g) (lLast (mL M))))) (pk_us) ?_
    refine g_iconst hX (pc := 80) (v := 1) dX2_has_80 (by decide) ?_
    refine g_iadd hX (pc := 81) dX2_has_81 ?_
    refine g_eqi (nI ((max (mKp M (gF g)) (min (gN g) (lLast (mL M)))) + 1)) (nI_1 _) ?_
    refine g_iast hX (pc := 82) (f1 := (upd fn16 (gF g) (nI ((max (mKp M (gF g)) (min (gN g) (lLast (mL M)))) + 1)))) (cs1 := [[(rl13, ob 9 [.ref la25, .int (lT (mL M)), .int (lV (mL M)), .int (nI (lB (mL M))), .int (lBT (mL M)), .ref sp26])], wl18, [(n, ob 1 [.ref lm, .ref lb, .ref lr, .int lo, .int nw])], [(m, ob 8 [.int (nI (mN M)), .ref rn11, .ref rk12, .ref rl13, .ref rs14, .ref rst15, .int (mR M), .int (mVt M), .int (nI (mSu M)), .int (nI (mDn M)), .int (bI (mLz M))])], [(rn11, iA (aC E 0) 5 (upd fn16 (gF g) (nI ((max (mKp M (gF g)) (min (gN g) (lLast (mL M)))) + 1))))], [(rk12, iA (aC E 0) 5 (upd fk17 (gF g) (nI (max (mKp M (gF g)) (min (gN g) (lLast (mL M)))))))], ws19, wst20, fz]) 4 rfl (vp_in_nI (by omega) (by omega)) (by rw [nI_clamp (by omega)]) rfl dX2_has_82 ?_
    refine g_pk [3, 3, 3, 0, 0, 1, 1] rfl ?_
    refine g_cs (cs1 := [[(m, ob 8 [.int (nI (mN M)), .ref rn11, .ref rk12, .ref rl13, .ref rs14, .ref rst15, .int (mR M), .int (mVt M), .int (nI (mSu M)), .int (nI (mDn M)), .int (bI (mLz M))])], [(rn11, iA (aC E 0) 5 (upd fn16 (gF g) (nI ((max (mKp M (gF g)) (min (gN g) (lLast (mL M)))) + 1))))], [(rk12, iA (aC E 0) 5 (upd fk17 (gF g) (nI (max (mKp M (gF g)) (min (gN g) (lLast (mL M)))))))], [(rl13, ob 9 [.ref la25, .int (lT (mL M)), .int (lV (mL M)), .int (nI (lB (mL M))), .int (lBT (mL M)), .ref sp26])], wl18, ws19, wst20, [(n, ob 1 [.ref lm, .ref lb, .ref lr, .int lo, .int nw])], fz]) rfl ?_
    refine g_fl (cs1 := [((m, ob 8 [.int (nI (mN M)), .ref rn11, .ref rk12, .ref rl13, .ref rs14, .ref rst15, .int (mR M), .int (mVt M), .int (nI (mSu M)), .int (nI (mDn M)), .int (bI (mLz M))]) :: (rn11, iA (aC E 0) 5 (upd fn16 (gF g) (nI ((max (mKp M (gF g)) (min (gN g) (lLast (mL M)))) + 1)))) :: (rk12, iA (aC E 0) 5 (upd fk17 (gF g) (nI (max (mKp M (gF g)) (min (gN g) (lLast (mL M))))))) :: (((rl13, ob 9 [.ref la25, .int (lT (mL M)), .int (lV (mL M)), .int (nI (lB (mL M))), .int (lBT (mL M)), .ref sp26]) :: wl18) ++ (ws19 ++ wst20))), [(n, ob 1 [.ref lm, .ref lb, .ref lr, .int lo, .int nw])], fz]) (by simp only [List.flatten_cons, List.flatten_nil, List.cons_append, List.append_assoc, List.nil_append, List.append_nil]) ?_
    have hM32 : IsMach E fz m (setNK M (upN (mNx M) (gF g) ((max (mKp M (gF g)) (min (gN g) (lLast (mL M)))) + 1)) (upN (mKp M) (gF g) (max (mKp M (gF g)) (min (gN g) (lLast (mL M)))))) ((m, ob 8 [.int (nI (mN M)), .ref rn11, .ref rk12, .ref rl13, .ref rs14, .ref rst15, .int (mR M), .int (mVt M), .int (nI (mSu M)), .int (nI (mDn M)), .int (bI (mLz M))]) :: (rn11, iA (aC E 0) 5 (upd fn16 (gF g) (nI ((max (mKp M (gF g)) (min (gN g) (lLast (mL M)))) + 1)))) :: (rk12, iA (aC E 0) 5 (upd fk17 (gF g) (nI (max (mKp M (gF g)) (min (gN g) (lLast (mL M))))))) :: (((rl13, ob 9 [.ref la25, .int (lT (mL M)), .int (lV (mL M)), .int (nI (lB (mL M))), .int (lBT (mL M)), .ref sp26]) :: wl18) ++ (ws19 ++ wst20))) := ⟨_, _, _, _, _, _, _, _, _, _, (fun k hk => ⟨upd_nI (hn21 k hk).1, upd_nI (hn21 k hk).2⟩), ⟨_, _, _, _, hE28, hges29, hsp30, rfl⟩, hV23, hS24, rfl⟩
    generalize ((m, ob 8 [.int (nI (mN M)), .ref rn11, .ref rk12, .ref rl13, .ref rs14, .ref rst15, .int (mR M), .int (mVt M), .int (nI (mSu M)), .int (nI (mDn M)), .int (bI (mLz M))]) :: (rn11, iA (aC E 0) 5 (upd fn16 (gF g) (nI ((max (mKp M (gF g)) (min (gN g) (lLast (mL M)))) + 1)))) :: (rk12, iA (aC E 0) 5 (upd fk17 (gF g) (nI (max (mKp M (gF g)) (min (gN g) (lLast (mL M))))))) :: (((rl13, ob 9 [.ref la25, .int (lT (mL M)), .int (lV (mL M)), .int (nI (lB (mL M))), .int (lBT (mL M)), .ref sp26]) :: wl18) ++ (ws19 ++ wst20))) = wk33 at hM32 ⊢
    refine g_pk [1, 0, 0] rfl ?_
    refine g_cs (cs1 := [[(n, ob 1 [.ref lm, .ref lb, .ref lr, .int lo, .int nw])], wk33, fz]) rfl ?_
    refine g_vret hX (pc := 83) hR ?_ (by omega) (by omega) dX2_has_83
    rw [show pHas M g = _ from if_pos (by simpa using c31)]
    exact ⟨_, hM32, rfl, rfl⟩
  · have c31 := bI_0.mp c31_
    refine g_aload_n hX (pc := 12) dX2_has_12 2 rfl ?_
    refine g_getN hX (pc := 13) fcX9 1 rfl 1 (by decide) q928 rfl (v := .ref rn11) rfl dX2_has_13 ?_
    refine g_iload_n hX (pc := 16) dX2_has_16 0 rfl ?_
    refine g_iconst hX (pc := 17) (v := 1) dX2_has_17 (by decide) ?_
    refine g_aload_n hX (pc := 18) dX2_has_18 2 rfl ?_
    refine g_getN hX (pc := 19) fcX9 1 rfl 1 (by decide) q928 rfl (v := .ref rn11) rfl dX2_has_19 ?_
    refine g_iload_n hX (pc := 22) dX2_has_22 0 rfl ?_
    refine g_iald hX (pc := 23) (sp_mem (i := 2) rfl) (v := fn16 (gF g)) (vp_in_nI (by omega) (by omega)) (by rw [nI_clamp (by omega)]) dX2_has_23 ?_
    refine g_eqi (nI (mNx M (gF g))) ((hn21 _ hf).1) ?_
    refine g_aload_n hX (pc := 24) dX2_has_24 3 rfl ?_
    refine g_getNm hX (pc := 25) fcX13 (sp_in 8 rfl k15) 4 (by decide) q1065 rfl (v := .int (nI (gN g))) rfl dX2_has_25 ?_
    refine g_iconst hX (pc := 28) (v := 1) dX2_has_28 (by decide) ?_
    refine g_iadd hX (pc := 29) dX2_has_29 ?_
    refine g_eqi (nI (gN g + 1)) (nI_1 _) ?_
    refine g_mmin hX (pc := 30) q232 (Nat.le_of_ble_eq_true rfl) (Nat.le_of_ble_eq_true rfl) (by omega) (by omega) q_m1min q_m2 q_m3min dX2_has_30 ?_
    refine g_eqi (nI (min (mNx M (gF g)) (gN g + 1))) (al_min (by omega) (by omega)) ?_
    refine g_mmax hX (pc := 33) q241 (Nat.le_of_ble_eq_true rfl) (Nat.le_of_ble_eq_true rfl) (by omega) (by omega) q_m1max q_m2 q_m3max dX2_has_33 ?_
    refine g_eqi (nI (max 1 (min (mNx M (gF g)) (gN g + 1)))) (al_max1 (by omega)) ?_
    refine g_iast hX (pc := 36) (f1 := (upd fn16 (gF g) (nI (max 1 (min (mNx M (gF g)) (gN g + 1)))))) (cs1 := [[(n, ob 1 [.ref lm, .ref lb, .ref lr, .int lo, .int nw])], [(m, ob 8 [.int (nI (mN M)), .ref rn11, .ref rk12, .ref rl13, .ref rs14, .ref rst15, .int (mR M), .int (mVt M), .int (nI (mSu M)), .int (nI (mDn M)), .int (bI (mLz M))])], [(rn11, iA (aC E 0) 5 (upd fn16 (gF g) (nI (max 1 (min (mNx M (gF g)) (gN g + 1))))))], [(rk12, iA (aC E 0) 5 fk17)], [(rl13, ob 9 [.ref la25, .int (lT (mL M)), .int (lV (mL M)), .int (nI (lB (mL M))), .int (lBT (mL M)), .ref sp26])], wl18, ws19, wst20, fz]) 2 rfl (vp_in_nI (by omega) (by omega)) (by rw [nI_clamp (by omega)]) rfl dX2_has_36 ?_
    refine g_goto hX (pc := 37) (tgt := 83) dX2_has_37 rfl ?_
    refine g_pk [1, 1, 1, 1, 1, 1, 1] rfl ?_
    refine g_cs (cs1 := [[(m, ob 8 [.int (nI (mN M)), .ref rn11, .ref rk12, .ref rl13, .ref rs14, .ref rst15, .int (mR M), .int (mVt M), .int (nI (mSu M)), .int (nI (mDn M)), .int (bI (mLz M))])], [(rn11, iA (aC E 0) 5 (upd fn16 (gF g) (nI (max 1 (min (mNx M (gF g)) (gN g + 1))))))], [(rk12, iA (aC E 0) 5 fk17)], [(rl13, ob 9 [.ref la25, .int (lT (mL M)), .int (lV (mL M)), .int (nI (lB (mL M))), .int (lBT (mL M)), .ref sp26])], wl18, ws19, wst20, [(n, ob 1 [.ref lm, .ref lb, .ref lr, .int lo, .int nw])], fz]) rfl ?_
    refine g_fl (cs1 := [((m, ob 8 [.int (nI (mN M)), .ref rn11, .ref rk12, .ref rl13, .ref rs14, .ref rst15, .int (mR M), .int (mVt M), .int (nI (mSu M)), .int (nI (mDn M)), .int (bI (mLz M))]) :: (rn11, iA (aC E 0) 5 (upd fn16 (gF g) (nI (max 1 (min (mNx M (gF g)) (gN g + 1)))))) :: (rk12, iA (aC E 0) 5 fk17) :: (((rl13, ob 9 [.ref la25, .int (lT (mL M)), .int (lV (mL M)), .int (nI (lB (mL M))), .int (lBT (mL M)), .ref sp26]) :: wl18) ++ (ws19 ++ wst20))), [(n, ob 1 [.ref lm, .ref lb, .ref lr, .int lo, .int nw])], fz]) (by simp only [List.flatten_cons, List.flatten_nil, List.cons_append, List.append_assoc, List.nil_append, List.append_nil]) ?_
    have hM34 : IsMach E fz m (setNK M (upN (mNx M) (gF g) (max 1 (min (mNx M (gF g)) (gN g + 1)))) (mKp M)) ((m, ob 8 [.int (nI (mN M)), .ref rn11, .ref rk12, .ref rl13, .ref rs14, .ref rst15, .int (mR M), .int (mVt M), .int (nI (mSu M)), .int (nI (mDn M)), .int (bI (mLz M))]) :: (rn11, iA (aC E 0) 5 (upd fn16 (gF g) (nI (max 1 (min (mNx M (gF g)) (gN g + 1)))))) :: (rk12, iA (aC E 0) 5 fk17) :: (((rl13, ob 9 [.ref la25, .int (lT (mL M)), .int (lV (mL M)), .int (nI (lB (mL M))), .int (lBT (mL M)), .ref sp26]) :: wl18) ++ (ws19 ++ wst20))) := ⟨_, _, _, _, _, _, _, _, _, _, (fun k hk => ⟨upd_nI (hn21 k hk).1, (hn21 k hk).2⟩), ⟨_, _, _, _, hE28, hges29, hsp30, rfl⟩, hV23, hS24, rfl⟩
    generalize ((m, ob 8 [.int (nI (mN M)), .ref rn11, .ref rk12, .ref rl13, .ref rs14, .ref rst15, .int (mR M), .int (mVt M), .int (nI (mSu M)), .int (nI (mDn M)), .int (bI (mLz M))]) :: (rn11, iA (aC E 0) 5 (upd fn16 (gF g) (nI (max 1 (min (mNx M (gF g)) (gN g + 1)))))) :: (rk12, iA (aC E 0) 5 fk17) :: (((rl13, ob 9 [.ref la25, .int (lT (mL M)), .int (lV (mL M)), .int (nI (lB (mL M))), .int (lBT (mL M)), .ref sp26]) :: wl18) ++ (ws19 ++ wst20))) = wk35 at hM34 ⊢
    refine g_pk [1, 0, 0] rfl ?_
    refine g_cs (cs1 := [[(n, ob 1 [.ref lm, .ref lb, .ref lr, .int lo, .int nw])], wk35, fz]) rfl ?_
    refine g_vret hX (pc := 83) hR ?_ (by omega) (by omega) dX2_has_83
    rw [show pHas M g = _ from if_neg (by rw [c31]; exact Bool.false_ne_true)]
    exact ⟨_, hM34, rfl, rfl⟩

set_option maxHeartbeats 4000000 in
theorem mt_Net_snap (E : EE) (l : Launch) (n : Nat) (lm : Nat) (lb : Nat) (lr : Nat) (nw : Int32) (m : Nat) (M : PM) (wk : va_W) (fz : va_W) (B : PB) (wb : va_W) (a : Nat) (g : PMg) (hM : IsMach E fz m M wk) (hB : BL E fz lb (Prod.fst B) wb) (hg : MsgIn E fz a g) (hn : (List.length (Prod.fst B) ≤ 30)) (hl : (lLast (mL M) ≤ 1000)) (hgn : (gN g ≤ 1000)) (hsu : (mSu M ≤ 1000)) (hbs : (lB (mL M) ≤ mSu M)) : Mt E l yX2_snap cX2_snap 3 none 9 10 111 218 [.ref n, .ref m, .ref a] [[(n, ob 1 [.ref lm, .ref lb, .ref lr, .int (Prod.snd B), .int nw])], wk, wb, fz] (fun (v_ : Option Value) (cs_ : List va_W) => ∃ (fz1 : va_W) (w1 : va_W) (w2 : va_W), Ext E fz fz1 ∧ IsMach E fz1 m (Prod.fst (pSnap M B g)) w1 ∧ BL E fz1 lb (Prod.fst (Prod.snd (pSnap M B g))) w2 ∧ v_ = none ∧ cs_ = [[(n, ob 1 [.ref lm, .ref lb, .ref lr, .int (Prod.snd (Prod.snd (pSnap M B g))), .int nw])], w1, w2, fz1]) := by
  have hll : lLast (mL M) = lB (mL M) + (lE (mL M)).length := rfl
  refine Mt.of (by decide) (Nat.le_of_ble_eq_true rfl) (fun X hX hR hin => ?_)
  refine g_lv1 (lv1 := [(0, .ref n), (1, .ref m), (2, .ref a)]) rfl ?_
  obtain ⟨ra1, sp2, ges3, f4, k15, k26, k37, k48, k59, k610⟩ := MsgIn.out hg
  obtain ⟨rn11, rk12, rl13, rs14, rst15, fn16, fk17, wl18, ws19, wst20, hn21, hL22, hV23, hS24, rfl⟩ := hM
  obtain ⟨la25, sp26, ges27, wl18, hE28, hges29, hsp30, rfl⟩ := hL22
  refine g_fl (cs1 := [[(n, ob 1 [.ref lm, .ref lb, .ref lr, .int (Prod.snd B), .int nw])], [(m, ob 8 [.int (nI (mN M)), .ref rn11, .ref rk12, .ref rl13, .ref rs14, .ref rst15, .int (mR M), .int (mVt M), .int (nI (mSu M)), .int (nI (mDn M)), .int (bI (mLz M))])], [(rn11, iA (aC E 0) 5 fn16)], [(rk12, iA (aC E 0) 5 fk17)], [(rl13, ob 9 [.ref la25, .int (lT (mL M)), .int (lV (mL M)), .int (nI (lB (mL M))), .int (lBT (mL M)), .ref sp26])], wl18, ws19, wst20, wb, fz]) (by simp only [List.flatten_cons, List.flatten_nil, List.cons_append, List.append_assoc, List.nil_append, List.append_nil]) ?_
  have hl_ges27 : List.length ges27 = List.length (lE (mL M)) := by rw [← hges29, List.length_map]
  refine g_aload_n hX (pc := 0) dX2_snap_0 2 rfl ?_
  refine g_getNm hX (pc := 1) fcX13 (sp_in 9 rfl k15) 4 (by decide) q1065 rfl (v := .int (nI (gN g))) rfl dX2_snap_1 ?_
  refine g_aload_n hX (pc := 4) dX2_snap_4 1 rfl ?_
  refine g_getN hX (pc := 5) fcX9 1 rfl 8 (by decide) q945 rfl (v := .int (nI (mSu M))) rfl dX2_snap_5 ?_
  refine g_icmp_le hX (pc := 8) (tgt := 50) dX2_snap_8 rfl (fun c31 => ?_) (fun c31 => ?_)
  · have d1 : ¬ mSu M < gN g := mt (nI_ltI (by omega) (by omega)).mpr (Int32.not_lt.mpr c31)
    refine g_pk [1, 1, 1, 1, 1, 1, 1] rfl ?_
    refine g_cs (cs1 := [[(m, ob 8 [.int (nI (mN M)), .ref rn11, .ref rk12, .ref rl13, .ref rs14, .ref rst15, .int (mR M), .int (mVt M), .int (nI (mSu M)), .int (nI (mDn M)), .int (bI (mLz M))])], [(rn11, iA (aC E 0) 5 fn16)], [(rk12, iA (aC E 0) 5 fk17)], [(rl13, ob 9 [.ref la25, .int (lT (mL M)), .int (lV (mL M)), .int (nI (lB (mL M))), .int (lBT (mL M)), .ref sp26])], wl18, ws19, wst20, [(n, ob 1 [.ref lm, .ref lb, .ref lr, .int (Prod.snd B), .int nw])], wb, fz]) rfl ?_
    refine g_fl (cs1 := [((m, ob 8 [.int (nI (mN M)), .ref rn11, .ref rk12, .ref rl13, .ref rs14, .ref rst15, .int (mR M), .int (mVt M), .int (nI (mSu M)), .int (nI (mDn M)), .int (bI (mLz M))]) :: (rn11, iA (aC E 0) 5 fn16) :: (rk12, iA (aC E 0) 5 fk17) :: (((rl13, ob 9 [.ref la25, .int (lT (mL M)), .int (lV (mL M)), .int (nI (lB (mL M))), .int (lBT (mL M)), .ref sp26]) :: wl18) ++ (ws19 ++ wst20))), [(n, ob 1 [.ref lm, .ref lb, .ref lr, .int (Prod.snd B), .int nw])], wb, fz]) (by simp only [List.flatten_cons, List.flatten_nil, List.cons_append, List.append_assoc, List.nil_append, List.append_nil]) ?_
    have hM32 : IsMach E fz m M ((m, ob 8 [.int (nI (mN M)), .ref rn11, .ref rk12, .ref rl13, .ref rs14, .ref rst15, .int (mR M), .int (mVt M), .int (nI (mSu M)), .int (nI (mDn M)), .int (bI (mLz M))]) :: (rn11, iA (aC E 0) 5 fn16) :: (rk12, iA (aC E 0) 5 fk17) :: (((rl13, ob 9 [.ref la25, .int (lT (mL M)), .int (lV (mL M)), .int (nI (lB (mL M))), .int (lBT (mL M)), .ref sp26]) :: wl18) ++ (ws19 ++ wst20))) := ⟨_, _, _, _, _, _, _, _, _, _, hn21, ⟨_, _, _, _, hE28, hges29, hsp30, rfl⟩, hV23, hS24, rfl⟩
    generalize ((m, ob 8 [.int (nI (mN M)), .ref rn11, .ref rk12, .ref rl13, .ref rs14, .ref rst15, .int (mR M), .int (mVt M), .int (nI (mSu M)), .int (nI (mDn M)), .int (bI (mLz M))]) :: (rn11, iA (aC E 0) 5 fn16) :: (rk12, iA (aC E 0) 5 fk17) :: (((rl13, ob 9 [.ref la25, .int (lT (mL M)), .int (lV (mL M)), .int (nI (lB (mL M))), .int (lBT (mL M)), .ref sp26]) :: wl18) ++ (ws19 ++ wst20))) = wk33 at hM32 ⊢
    have ht34 : mSnap M g = M := mSnap_n d1
    have h35 : StIn E fz sp26 (lS (mL (mSnap M g))) := by rw [ht34]; exact hsp30
    have h36 : IsMach E fz m (mSnap M g) wk33 := by rw [ht34]; exact hM32
    refine g_aload_n hX (pc := 50) dX2_snap_50 0 rfl ?_
    refine g_aload_n hX (pc := 51) dX2_snap_51 1 rfl ?_
    refine g_aload_n hX (pc := 52) dX2_snap_52 2 rfl ?_
    refine g_gets hX (pc := 53) (v := .ref (aW E 3)) ((cx_gs hX).2.1.1 3 (by decide)).1 q1223 rfl dX2_snap_53 ?_
    refine g_iconst hX (pc := 56) (v := 1) dX2_snap_56 (by decide) ?_
    refine g_eqi (bI true) (rfl) ?_
    refine g_aload_n hX (pc := 57) dX2_snap_57 2 rfl ?_
    refine g_getNm hX (pc := 58) fcX13 (sp_in 3 rfl k15) 4 (by decide) q1065 rfl (v := .int (nI (gN g))) rfl dX2_snap_58 ?_
    refine g_callV hX (pc := 61) kX2_answer (mt_Net_answer E l n lm lb lr nw m (mSnap M g) wk33 fz B wb a g 3 true (gN g) h36 hB hg (by omega)) q1211 fcX2 (sp_mem (i := 1) rfl) [1, 0, 0, 0] rfl rfl rfl (Nat.le_of_ble_eq_true rfl) (Nat.le_of_ble_eq_true rfl) (Nat.le_of_ble_eq_true rfl) (by omega) (by omega) dX2_snap_61 (fun v w1 hp => ?_)
    obtain ⟨fz137, w138, w239, h40, h41, h42, rfl, rfl⟩ := hp
    refine g_nrm (cs1 := [[(n, ob 1 [.ref lm, .ref lb, .ref lr, .int (Prod.snd (bSend B (mkA 3 (mSnap M g) (gF g) true (gN g)))), .int nw])], w138, w239, fz137]) (st1 := []) rfl rfl ?_
    have h43 := BL.mono h40 hB
    have h44 := MsgIn.mono h40 hg
    have h45 := StIn.mono h40 k610
    have h46 := StIn.mono h40 h35
    have h47 := IsMach.mono h40 h36
    refine g_vret hX (pc := 64) hR ?_ (by omega) (by omega) dX2_snap_64
    exact ⟨_, _, _, h40, h41, h42, rfl, rfl⟩
  · have d1 : mSu M < gN g := (nI_ltI (by omega) (by omega)).mp (Int32.not_le.mp c31)
    refine g_aload_n hX (pc := 11) dX2_snap_11 1 rfl ?_
    refine g_getN hX (pc := 12) fcX9 1 rfl 3 (by decide) q933 rfl (v := .ref rl13) rfl dX2_snap_12 ?_
    refine g_aload_n hX (pc := 15) dX2_snap_15 1 rfl ?_
    refine g_getN hX (pc := 16) fcX9 1 rfl 3 (by decide) q933 rfl (v := .ref rl13) rfl dX2_snap_16 ?_
    refine g_getN hX (pc := 19) fcX10 4 rfl 3 (by decide) q852 rfl (v := .int (nI (lB (mL M)))) rfl dX2_snap_19 ?_
    refine g_iconst hX (pc := 22) (v := 1) dX2_snap_22 (by decide) ?_
    refine g_iadd hX (pc := 23) dX2_snap_23 ?_
    refine g_eqi (nI (lB (mL M) + 1)) (nI_1 _) ?_
    refine g_callV hX (pc := 24) kX10_cutFrom (mt_Log_cutFrom E l rl13 la25 (lT (mL M)) (lV (mL M)) (lB (mL M)) (lBT (mL M)) sp26 fz ges27 wl18 (lB (mL M) + 1) hE28 (by omega) (by omega) (by omega)) q1230 fcX10 (sp_mem (i := 4) rfl) [4, 4, 7] rfl rfl rfl (Nat.le_of_ble_eq_true rfl) (Nat.le_of_ble_eq_true rfl) (Nat.le_of_ble_eq_true rfl) (by omega) (by omega) dX2_snap_24 (fun v w1 hp => ?_)
    obtain ⟨w148, h49, rfl, rfl⟩ := hp
    refine g_nrm (cs1 := [[(rl13, ob 9 [.ref la25, .int (lT (mL M)), .int (lV (mL M)), .int (nI (lB (mL M))), .int (lBT (mL M)), .ref sp26])], w148, fz, [(n, ob 1 [.ref lm, .ref lb, .ref lr, .int (Prod.snd B), .int nw])], [(m, ob 8 [.int (nI (mN M)), .ref rn11, .ref rk12, .ref rl13, .ref rs14, .ref rst15, .int (mR M), .int (mVt M), .int (nI (mSu M)), .int (nI (mDn M)), .int (bI (mLz M))])], [(rn11, iA (aC E 0) 5 fn16)], [(rk12, iA (aC E 0) 5 fk17)], ws19, wst20, wb]) (st1 := []) rfl rfl ?_
    refine g_aload_n hX (pc := 27) dX2_snap_27 1 rfl ?_
    refine g_getN hX (pc := 28) fcX9 4 rfl 3 (by decide) q933 rfl (v := .ref rl13) rfl dX2_snap_28 ?_
    refine g_aload_n hX (pc := 31) dX2_snap_31 2 rfl ?_
    refine g_getNm hX (pc := 32) fcX13 (sp_in 2 rfl k15) 4 (by decide) q1065 rfl (v := .int (nI (gN g))) rfl dX2_snap_32 ?_
    refine g_aload_n hX (pc := 35) dX2_snap_35 2 rfl ?_
    refine g_getNm hX (pc := 36) fcX13 (sp_in 2 rfl k15) 5 (by decide) q1067 rfl (v := .int (gIt g)) rfl dX2_snap_36 ?_
    refine g_aload_n hX (pc := 39) dX2_snap_39 2 rfl ?_
    refine g_getNm hX (pc := 40) fcX13 (sp_in 2 rfl k15) 9 (by decide) q1074 rfl (v := .ref sp2) rfl dX2_snap_40 ?_
    refine g_callV hX (pc := 43) kX10_begin (mt_Log_begin E l rl13 la25 (lT (mL M)) (lV (mL M)) (lB (mL M)) (lBT (mL M)) sp26 fz (List.take ((lB (mL M) + 1) - (lB (mL M)) - 1) ges27) w148 (gN g) (gIt g) sp2 h49 (by rw [List.length_take]; omega) (by omega) (by omega)) q1237 fcX10 (sp_mem (i := 0) rfl) [0, 0, 0] rfl rfl rfl (Nat.le_of_ble_eq_true rfl) (Nat.le_of_ble_eq_true rfl) (Nat.le_of_ble_eq_true rfl) (by omega) (by omega) dX2_snap_43 (fun v w1 hp => ?_)
    obtain ⟨w150, h51, rfl, rfl⟩ := hp
    refine g_nrm (cs1 := [[(rl13, ob 9 [.ref la25, .int (lT (mL M)), .int (lV (mL M)), .int (nI (gN g)), .int (gIt g), .ref sp2])], w150, fz, [(n, ob 1 [.ref lm, .ref lb, .ref lr, .int (Prod.snd B), .int nw])], [(m, ob 8 [.int (nI (mN M)), .ref rn11, .ref rk12, .ref rl13, .ref rs14, .ref rst15, .int (mR M), .int (mVt M), .int (nI (mSu M)), .int (nI (mDn M)), .int (bI (mLz M))])], [(rn11, iA (aC E 0) 5 fn16)], [(rk12, iA (aC E 0) 5 fk17)], ws19, wst20, wb]) (st1 := []) rfl rfl ?_
    refine g_aload_n hX (pc := 46) dX2_snap_46 1 rfl ?_
    refine g_callV hX (pc := 47) kX9_forget (mt_Machine_forget E l m (nI (mN M)) rn11 rk12 rl13 rs14 rst15 (mR M) (mVt M) (nI (mSu M)) (nI (mDn M)) (bI (mLz M)) la25 (lT (mL M)) (lV (mL M)) (gN g) (gIt g) sp2 (gSn g) fz (k610)) q1242 fcX9 (sp_mem (i := 4) rfl) [4, 0, 1] rfl rfl rfl (Nat.le_of_ble_eq_true rfl) (Nat.le_of_ble_eq_true rfl) (Nat.le_of_ble_eq_true rfl) (by omega) (by omega) dX2_snap_47 (fun v w1 hp => ?_)
    obtain ⟨q52, w153, h54, rfl, rfl⟩ := hp
    refine g_nrm (cs1 := [[(m, ob 8 [.int (nI (mN M)), .ref rn11, .ref rk12, .ref rl13, .ref rs14, .ref q52, .int (mR M), .int (mVt M), .int (nI (gN g)), .int (nI (gN g)), .int (bI (mLz M))])], [(rl13, ob 9 [.ref la25, .int (lT (mL M)), .int (lV (mL M)), .int (nI (gN g)), .int (gIt g), .ref sp2])], fz, w153, w150, [(n, ob 1 [.ref lm, .ref lb, .ref lr, .int (Prod.snd B), .int nw])], [(rn11, iA (aC E 0) 5 fn16)], [(rk12, iA (aC E 0) 5 fk17)], ws19, wst20, wb]) (st1 := []) rfl rfl ?_
    refine g_drop (cs1 := [[(m, ob 8 [.int (nI (mN M)), .ref rn11, .ref rk12, .ref rl13, .ref rs14, .ref q52, .int (mR M), .int (mVt M), .int (nI (gN g)), .int (nI (gN g)), .int (bI (mLz M))])], [(rl13, ob 9 [.ref la25, .int (lT (mL M)), .int (lV (mL M)), .int (nI (gN g)), .int (gIt g), .ref sp2])], fz, w153, w150, [(n, ob 1 [.ref lm, .ref lb, .ref lr, .int (Prod.snd B), .int nw])], [(rn11, iA (aC E 0) 5 fn16)], [(rk12, iA (aC E 0) 5 fk17)], ws19, wb]) [9] rfl ?_
    refine g_pk [0, 5, 5, 0, 2, 3, 1] rfl ?_
    refine g_cs (cs1 := [[(m, ob 8 [.int (nI (mN M)), .ref rn11, .ref rk12, .ref rl13, .ref rs14, .ref q52, .int (mR M), .int (mVt M), .int (nI (gN g)), .int (nI (gN g)), .int (bI (mLz M))])], [(rn11, iA (aC E 0) 5 fn16)], [(rk12, iA (aC E 0) 5 fk17)], [(rl13, ob 9 [.ref la25, .int (lT (mL M)), .int (lV (mL M)), .int (nI (gN g)), .int (gIt g), .ref sp2])], w150, ws19, w153, fz, [(n, ob 1 [.ref lm, .ref lb, .ref lr, .int (Prod.snd B), .int nw])], wb]) rfl ?_
    refine g_fl (cs1 := [((m, ob 8 [.int (nI (mN M)), .ref rn11, .ref rk12, .ref rl13, .ref rs14, .ref q52, .int (mR M), .int (mVt M), .int (nI (gN g)), .int (nI (gN g)), .int (bI (mLz M))]) :: (rn11, iA (aC E 0) 5 fn16) :: (rk12, iA (aC E 0) 5 fk17) :: (((rl13, ob 9 [.ref la25, .int (lT (mL M)), .int (lV (mL M)), .int (nI (gN g)), .int (gIt g), .ref sp2]) :: w150) ++ (ws19 ++ w153))), fz, [(n, ob 1 [.ref lm, .ref lb, .ref lr, .int (Prod.snd B), .int nw])], wb]) (by simp only [List.flatten_cons, List.flatten_nil, List.cons_append, List.append_assoc, List.nil_append, List.append_nil]) ?_
    have hM55 : IsMach E fz m (mSnapD M g) ((m, ob 8 [.int (nI (mN M)), .ref rn11, .ref rk12, .ref rl13, .ref rs14, .ref q52, .int (mR M), .int (mVt M), .int (nI (gN g)), .int (nI (gN g)), .int (bI (mLz M))]) :: (rn11, iA (aC E 0) 5 fn16) :: (rk12, iA (aC E 0) 5 fk17) :: (((rl13, ob 9 [.ref la25, .int (lT (mL M)), .int (lV (mL M)), .int (nI (gN g)), .int (gIt g), .ref sp2]) :: w150) ++ (ws19 ++ w153))) := ⟨_, _, _, _, _, _, _, _, _, _, hn21, ⟨_, _, _, _, h51, (by rw [show lB (mL M) + 1 - lB (mL M) - 1 = 0 by omega, List.take_zero, List.drop_nil]; rfl), k610, rfl⟩, hV23, h54, rfl⟩
    generalize ((m, ob 8 [.int (nI (mN M)), .ref rn11, .ref rk12, .ref rl13, .ref rs14, .ref q52, .int (mR M), .int (mVt M), .int (nI (gN g)), .int (nI (gN g)), .int (bI (mLz M))]) :: (rn11, iA (aC E 0) 5 fn16) :: (rk12, iA (aC E 0) 5 fk17) :: (((rl13, ob 9 [.ref la25, .int (lT (mL M)), .int (lV (mL M)), .int (nI (gN g)), .int (gIt g), .ref sp2]) :: w150) ++ (ws19 ++ w153))) = wk56 at hM55 ⊢
    have ht57 : mSnap M g = mSnapD M g := mSnap_p d1
    have h58 : IsMach E fz m (mSnap M g) wk56 := by rw [ht57]; exact hM55
    refine g_aload_n hX (pc := 50) dX2_snap_50 0 rfl ?_
    refine g_aload_n hX (pc := 51) dX2_snap_51 1 rfl ?_
    refine g_aload_n hX (pc := 52) dX2_snap_52 2 rfl ?_
    refine g_gets hX (pc := 53) (v := .ref (aW E 3)) ((cx_gs hX).2.1.1 3 (by decide)).1 q1223 rfl dX2_snap_53 ?_
    refine g_iconst hX (pc := 56) (v := 1) dX2_snap_56 (by decide) ?_
    refine g_eqi (bI true) (rfl) ?_
    refine g_aload_n hX (pc := 57) dX2_snap_57 2 rfl ?_
    refine g_getNm hX (pc := 58) fcX13 (sp_in 1 rfl k15) 4 (by decide) q1065 rfl (v := .int (nI (gN g))) rfl dX2_snap_58 ?_
    refine g_callV hX (pc := 61) kX2_answer (mt_Net_answer E l n lm lb lr nw m (mSnap M g) wk56 fz B wb a g 3 true (gN g) h58 hB hg (by omega)) q1211 fcX2 (sp_mem (i := 2) rfl) [2, 0, 1, 0] rfl rfl rfl (Nat.le_of_ble_eq_true rfl) (Nat.le_of_ble_eq_true rfl) (Nat.le_of_ble_eq_true rfl) (by omega) (by omega) dX2_snap_61 (fun v w1 hp => ?_)
    obtain ⟨fz159, w160, w261, h62, h63, h64, rfl, rfl⟩ := hp
    refine g_nrm (cs1 := [[(n, ob 1 [.ref lm, .ref lb, .ref lr, .int (Prod.snd (bSend B (mkA 3 (mSnap M g) (gF g) true (gN g)))), .int nw])], w160, w261, fz159]) (st1 := []) rfl rfl ?_
    have h65 := BL.mono h62 hB
    have h66 := MsgIn.mono h62 hg
    have h67 := StIn.mono h62 k610
    have h68 := EL.mono h62 hE28
    have h69 := StIn.mono h62 hsp30
    have h70 := EL.mono h62 h49
    have h71 := IsMach.mono h62 h58
    refine g_vret hX (pc := 64) hR ?_ (by omega) (by omega) dX2_snap_64
    exact ⟨_, _, _, h62, h63, h64, rfl, rfl⟩

set_option maxHeartbeats 4000000 in
theorem mt_Net_take (E : EE) (l : Launch) (n : Nat) (lm : Nat) (lb : Nat) (lr : Nat) (nw : Int32) (m : Nat) (M : PM) (wk : va_W) (fz : va_W) (B : PB) (wb : va_W) (a : Nat) (g : PMg) (hM : IsMach E fz m M wk) (hB : BL E fz lb (Prod.fst B) wb) (hg : MsgIn E fz a g) (hn : (List.length (Prod.fst B) ≤ 30)) (hl : (lLast (mL M) ≤ 1000)) (hgn : (gN g ≤ 1000)) (hsu : (mSu M ≤ 1000)) (hbs : (lB (mL M) ≤ mSu M)) (hgl2 : (List.length (gE g) ≤ 2)) (hgs2 : (gS g ≤ 1000)) (hln : (lLast (mL M) ≤ 33)) (hgn3 : (gN g + List.length (gE g) ≤ 33)) : Mt E l yX2_take cX2_take 7 none 9 5 232 218 [.ref n, .ref m, .ref a] [[(n, ob 1 [.ref lm, .ref lb, .ref lr, .int (Prod.snd B), .int nw])], wk, wb, fz] (fun (v_ : Option Value) (cs_ : List va_W) => ∃ (fz1 : va_W) (w1 : va_W) (w2 : va_W), Ext E fz fz1 ∧ IsMach E fz1 m (Prod.fst (pTake M B g)) w1 ∧ BL E fz1 lb (Prod.fst (Prod.snd (pTake M B g))) w2 ∧ v_ = none ∧ cs_ = [[(n, ob 1 [.ref lm, .ref lb, .ref lr, .int (Prod.snd (Prod.snd (pTake M B g))), .int nw])], w1, w2, fz1]) := by
  have hll : lLast (mL M) = lB (mL M) + (lE (mL M)).length := rfl
  refine Mt.of (by decide) (Nat.le_of_ble_eq_true rfl) (fun X hX hR hin => ?_)
  refine g_lv1 (lv1 := [(0, .ref n), (1, .ref m), (2, .ref a)]) rfl ?_
  obtain ⟨ra1, sp2, ges3, f4, k15, k26, k37, k48, k59, k610⟩ := MsgIn.out hg
  obtain ⟨rn11, rk12, rl13, rs14, rst15, fn16, fk17, wl18, ws19, wst20, hn21, hL22, hV23, hS24, rfl⟩ := hM
  obtain ⟨la25, sp26, ges27, wl18, hE28, hges29, hsp30, rfl⟩ := hL22
  refine g_fl (cs1 := [[(n, ob 1 [.ref lm, .ref lb, .ref lr, .int (Prod.snd B), .int nw])], [(m, ob 8 [.int (nI (mN M)), .ref rn11, .ref rk12, .ref rl13, .ref rs14, .ref rst15, .int (mR M), .int (mVt M), .int (nI (mSu M)), .int (nI (mDn M)), .int (bI (mLz M))])], [(rn11, iA (aC E 0) 5 fn16)], [(rk12, iA (aC E 0) 5 fk17)], [(rl13, ob 9 [.ref la25, .int (lT (mL M)), .int (lV (mL M)), .int (nI (lB (mL M))), .int (lBT (mL M)), .ref sp26])], wl18, ws19, wst20, wb, fz]) (by simp only [List.flatten_cons, List.flatten_nil, List.cons_append, List.append_assoc, List.nil_append, List.append_nil]) ?_
  have hl_ges27 : List.length ges27 = List.length (lE (mL M)) := by rw [← hges29, List.length_map]
  refine g_aload_n hX (pc := 0) dX2_take_0 1 rfl ?_
  refine g_getN hX (pc := 1) fcX9 1 rfl 3 (by decide) q933 rfl (v := .ref rl13) rfl dX2_take_1 ?_
  refine g_astore_n hX (pc := 4) (lv1 := [(3, .ref rl13), (0, .ref n), (1, .ref m), (2, .ref a)]) dX2_take_4 (by decide) rfl ?_
  refine g_aload_n hX (pc := 5) dX2_take_5 3 rfl ?_
  refine g_getNm hX (pc := 6) fcX13 (sp_in 9 rfl k15) 4 (by decide) q1065 rfl (v := .int (nI (gN g))) rfl dX2_take_6 ?_
  refine g_istore hX (pc := 9) (lv1 := [(4, .int (nI (gN g))), (3, .ref rl13), (0, .ref n), (1, .ref m), (2, .ref a)]) dX2_take_9 (by decide) rfl ?_
  refine g_iload hX (pc := 11) dX2_take_11 0 rfl ?_
  refine g_aload_n hX (pc := 13) dX2_take_13 1 rfl ?_
  refine g_callV hX (pc := 14) kX10_last (mt_Log_last E l rl13 la25 (lT (mL M)) (lV (mL M)) (lB (mL M)) (lBT (mL M)) sp26 fz ges27 wl18 hE28) q235 fcX10 (sp_mem (i := 4) rfl) [4, 4] rfl rfl rfl (Nat.le_of_ble_eq_true rfl) (Nat.le_of_ble_eq_true rfl) (Nat.le_of_ble_eq_true rfl) (by omega) (by omega) dX2_take_14 (fun v w1 hp => ?_)
  obtain ⟨rfl, rfl⟩ := hp
  refine g_nrm (cs1 := [[(rl13, ob 9 [.ref la25, .int (lT (mL M)), .int (lV (mL M)), .int (nI (lB (mL M))), .int (lBT (mL M)), .ref sp26])], wl18, [(n, ob 1 [.ref lm, .ref lb, .ref lr, .int (Prod.snd B), .int nw])], [(m, ob 8 [.int (nI (mN M)), .ref rn11, .ref rk12, .ref rl13, .ref rs14, .ref rst15, .int (mR M), .int (mVt M), .int (nI (mSu M)), .int (nI (mDn M)), .int (bI (mLz M))])], [(rn11, iA (aC E 0) 5 fn16)], [(rk12, iA (aC E 0) 5 fk17)], ws19, wst20, wb, fz]) (st1 := [.int (nI ((lB (mL M)) + List.length ges27)), .int (nI (gN g))]) rfl rfl ?_
  refine g_eqi (nI (lLast (mL M))) (by rw [hl_ges27]) ?_
  refine g_icmp_gt hX (pc := 17) (tgt := 42) dX2_take_17 rfl (fun c31 => ?_) (fun c31 => ?_)
  · have d1 : lLast (mL M) < gN g := by
      have := (nI_ltI (by omega) (by omega)).mp c31
      omega
    have hnt : tkNot M g := Or.inl d1
    refine g_aload_n hX (pc := 42) dX2_take_42 2 rfl ?_
    refine g_aload_n hX (pc := 43) dX2_take_43 3 rfl ?_
    refine g_aload_n hX (pc := 44) dX2_take_44 4 rfl ?_
    refine g_gets hX (pc := 45) (v := .ref (aW E 3)) ((cx_gs hX).2.1.1 3 (by decide)).1 q1223 rfl dX2_take_45 ?_
    refine g_iconst hX (pc := 48) (v := 0) dX2_take_48 (by decide) ?_
    refine g_eqi (bI false) (rfl) ?_
    refine g_iconst hX (pc := 49) (v := 0) dX2_take_49 (by decide) ?_
    refine g_iload hX (pc := 50) dX2_take_50 0 rfl ?_
    refine g_iconst hX (pc := 52) (v := 1) dX2_take_52 (by decide) ?_
    refine g_isub hX (pc := 53) dX2_take_53 ?_
    refine g_eqi (nI (gN g - 1)) (pk_sub (b := 1) (by omega)) ?_
    refine g_mmax hX (pc := 54) q241 (Nat.le_of_ble_eq_true rfl) (Nat.le_of_ble_eq_true rfl) (by omega) (by omega) q_m1max q_m2 q_m3max dX2_take_54 ?_
    refine g_eqi (nI (gN g - 1)) (al_max0 (by omega)) ?_
    refine g_aload_n hX (pc := 57) dX2_take_57 1 rfl ?_
    refine g_callV hX (pc := 58) kX10_last (mt_Log_last E l rl13 la25 (lT (mL M)) (lV (mL M)) (lB (mL M)) (lBT (mL M)) sp26 fz ges27 wl18 hE28) q235 fcX10 (sp_mem (i := 0) rfl) [0, 0] rfl rfl rfl (Nat.le_of_ble_eq_true rfl) (Nat.le_of_ble_eq_true rfl) (Nat.le_of_ble_eq_true rfl) (by omega) (by omega) dX2_take_58 (fun v w1 hp => ?_)
    obtain ⟨rfl, rfl⟩ := hp
    refine g_nrm (cs1 := [[(rl13, ob 9 [.ref la25, .int (lT (mL M)), .int (lV (mL M)), .int (nI (lB (mL M))), .int (lBT (mL M)), .ref sp26])], wl18, [(n, ob 1 [.ref lm, .ref lb, .ref lr, .int (Prod.snd B), .int nw])], [(m, ob 8 [.int (nI (mN M)), .ref rn11, .ref rk12, .ref rl13, .ref rs14, .ref rst15, .int (mR M), .int (mVt M), .int (nI (mSu M)), .int (nI (mDn M)), .int (bI (mLz M))])], [(rn11, iA (aC E 0) 5 fn16)], [(rk12, iA (aC E 0) 5 fk17)], ws19, wst20, wb, fz]) (st1 := [.int (nI ((lB (mL M)) + List.length ges27)), .int (nI (gN g - 1)), .int (bI false), .ref (aW E 3), .ref a, .ref m, .ref n]) rfl rfl ?_
    refine g_eqi (nI (lLast (mL M))) (by rw [hl_ges27]) ?_
    refine g_mmin hX (pc := 61) q232 (Nat.le_of_ble_eq_true rfl) (Nat.le_of_ble_eq_true rfl) (by omega) (by omega) q_m1min q_m2 q_m3min dX2_take_61 ?_
    refine g_eqi (nI (min (gN g - 1) (lLast (mL M)))) (al_min (by omega) (by omega)) ?_
    refine g_pk [3, 3, 3, 0, 0, 1, 1] rfl ?_
    refine g_cs (cs1 := [[(m, ob 8 [.int (nI (mN M)), .ref rn11, .ref rk12, .ref rl13, .ref rs14, .ref rst15, .int (mR M), .int (mVt M), .int (nI (mSu M)), .int (nI (mDn M)), .int (bI (mLz M))])], [(rn11, iA (aC E 0) 5 fn16)], [(rk12, iA (aC E 0) 5 fk17)], [(rl13, ob 9 [.ref la25, .int (lT (mL M)), .int (lV (mL M)), .int (nI (lB (mL M))), .int (lBT (mL M)), .ref sp26])], wl18, ws19, wst20, [(n, ob 1 [.ref lm, .ref lb, .ref lr, .int (Prod.snd B), .int nw])], wb, fz]) rfl ?_
    refine g_fl (cs1 := [((m, ob 8 [.int (nI (mN M)), .ref rn11, .ref rk12, .ref rl13, .ref rs14, .ref rst15, .int (mR M), .int (mVt M), .int (nI (mSu M)), .int (nI (mDn M)), .int (bI (mLz M))]) :: (rn11, iA (aC E 0) 5 fn16) :: (rk12, iA (aC E 0) 5 fk17) :: (((rl13, ob 9 [.ref la25, .int (lT (mL M)), .int (lV (mL M)), .int (nI (lB (mL M))), .int (lBT (mL M)), .ref sp26]) :: wl18) ++ (ws19 ++ wst20))), [(n, ob 1 [.ref lm, .ref lb, .ref lr, .int (Prod.snd B), .int nw])], wb, fz]) (by simp only [List.flatten_cons, List.flatten_nil, List.cons_append, List.append_assoc, List.nil_append, List.append_nil]) ?_
    have hM32 : IsMach E fz m M ((m, ob 8 [.int (nI (mN M)), .ref rn11, .ref rk12, .ref rl13, .ref rs14, .ref rst15, .int (mR M), .int (mVt M), .int (nI (mSu M)), .int (nI (mDn M)), .int (bI (mLz M))]) :: (rn11, iA (aC E 0) 5 fn16) :: (rk12, iA (aC E 0) 5 fk17) :: (((rl13, ob 9 [.ref la25, .int (lT (mL M)), .int (lV (mL M)), .int (nI (lB (mL M))), .int (lBT (mL M)), .ref sp26]) :: wl18) ++ (ws19 ++ wst20))) := ⟨_, _, _, _, _, _, _, _, _, _, hn21, ⟨_, _, _, _, hE28, hges29, hsp30, rfl⟩, hV23, hS24, rfl⟩
    generalize ((m, ob 8 [.int (nI (mN M)), .ref rn11, .ref rk12, .ref rl13, .ref rs14, .ref rst15, .int (mR M), .int (mVt M), .int (nI (mSu M)), .int (nI (mDn M)), .int (bI (mLz M))]) :: (rn11, iA (aC E 0) 5 fn16) :: (rk12, iA (aC E 0) 5 fk17) :: (((rl13, ob 9 [.ref la25, .int (lT (mL M)), .int (lV (mL M)), .int (nI (lB (mL M))), .int (lBT (mL M)), .ref sp26]) :: wl18) ++ (ws19 ++ wst20))) = wk33 at hM32 ⊢
    refine g_callV hX (pc := 64) kX2_answer (mt_Net_answer E l n lm lb lr nw m M wk33 fz B wb a g 3 false (min (gN g - 1) (lLast (mL M))) hM32 hB hg (by omega)) q1211 fcX2 (sp_mem (i := 1) rfl) [1, 0, 0, 0] rfl rfl rfl (Nat.le_of_ble_eq_true rfl) (Nat.le_of_ble_eq_true rfl) (Nat.le_of_ble_eq_true rfl) (by omega) (by omega) dX2_take_64 (fun v w1 hp => ?_)
    obtain ⟨fz134, w135, w236, h37, h38, h39, rfl, rfl⟩ := hp
    refine g_nrm (cs1 := [[(n, ob 1 [.ref lm, .ref lb, .ref lr, .int (Prod.snd (bSend B (mkA 3 M (gF g) false (min (gN g - 1) (lLast (mL M)))))), .int nw])], w135, w236, fz134]) (st1 := []) rfl rfl ?_
    have h40 := BL.mono h37 hB
    have h41 := MsgIn.mono h37 hg
    have h42 := StIn.mono h37 k610
    have h43 := StIn.mono h37 hsp30
    have h44 := IsMach.mono h37 hM32
    refine g_vret hX (pc := 67) hR ?_ (by omega) (by omega) dX2_take_67
    rw [show pTake M B g = _ from if_pos hnt]
    exact ⟨_, _, _, h37, h38, h39, rfl, rfl⟩
  · have d0 : gN g ≤ lLast (mL M) := by
      have := mt (nI_ltI (by omega) (by omega)).mpr c31
      omega
    refine g_iload hX (pc := 20) dX2_take_20 0 rfl ?_
    refine g_aload_n hX (pc := 22) dX2_take_22 1 rfl ?_
    refine g_getN hX (pc := 23) fcX10 0 rfl 3 (by decide) q852 rfl (v := .int (nI (lB (mL M)))) rfl dX2_take_23 ?_
    refine g_icmp_le hX (pc := 26) (tgt := 68) dX2_take_26 rfl (fun c45 => ?_) (fun c45 => ?_)
    · have hnt : ¬ tkNot M g := by
        have d1 : gN g ≤ lB (mL M) := (nI_leI (by omega) (by omega)).mp c45
        intro z
        rcases z with z | z <;> omega
      refine g_iconst hX (pc := 68) (v := 0) dX2_take_68 (by decide) ?_
      refine g_eqi (nI 0) (nI_0.symm) ?_
      refine g_istore hX (pc := 69) (lv1 := [(5, .int (nI 0)), (4, .int (nI (gN g))), (3, .ref rl13), (0, .ref n), (1, .ref m), (2, .ref a)]) dX2_take_69 (by decide) rfl ?_
      have hup := tkUp_le (b := lB (mL M)) (es := lE (mL M)) (a := gN g) (en := gE g) (by omega)
      have hme : List.length ges3 = List.length (gE g) := by rw [← k48, List.length_map]
      have lp46 : ∀ (F1 : Nat) (i : Nat) (gs : List (Nat × PEn)) (w1 : va_W), List.length (gE g) - i < F1 → (i ≤ List.length (gE g)) → EL E fz la25 gs w1 → (List.map Prod.snd gs = (tkUp (lB (mL M)) (lE (mL M)) (gN g) (gE g) i)) → G E l X [[(rl13, ob 9 [.ref la25, .int (lT (mL M)), .int (lV (mL M)), .int (nI (lB (mL M))), .int (lBT (mL M)), .ref sp26])], w1, [(n, ob 1 [.ref lm, .ref lb, .ref lr, .int (Prod.snd B), .int nw])], [(m, ob 8 [.int (nI (mN M)), .ref rn11, .ref rk12, .ref rl13, .ref rs14, .ref rst15, .int (mR M), .int (mVt M), .int (nI (mSu M)), .int (nI (mDn M)), .int (bI (mLz M))])], [(rn11, iA (aC E 0) 5 fn16)], [(rk12, iA (aC E 0) 5 fk17)], ws19, wst20, wb, fz] i (76 * i) 71 [(5, .int (nI i)), (4, .int (nI (gN g))), (3, .ref rl13), (0, .ref n), (1, .ref m), (2, .ref a)] [] := by
        intro F1
        induction F1 with
        | zero =>
          intro i gs w1 hF hi hE1 hgs
          exact absurd hF (Nat.not_lt_zero _)
        | succ F1 ih1 =>
          intro i gs w1 hF hi hE1 hgs
          refine g_iload hX (pc := 71) dX2_take_71 0 rfl ?_
          refine g_aload_n hX (pc := 73) dX2_take_73 5 rfl ?_
          refine g_getNm hX (pc := 74) fcX13 (sp_in 9 rfl k15) 8 (by decide) q1072 rfl (v := .ref ra1) rfl dX2_take_74 ?_
          refine g_alen hX (pc := 77) (sp_in 9 rfl k26) 3 rfl (v := (nI (List.length ges3))) rfl dX2_take_77 ?_
          refine g_icmp_ge hX (pc := 78) (tgt := 171) dX2_take_78 rfl (fun c47 => ?_) (fun c47 => ?_)
          · have d2 : i = List.length (gE g) := by
              have := (nI_leI (by omega) (by omega)).mp c47
              omega
            refine g_iload hX (pc := 171) dX2_take_171 1 rfl ?_
            refine g_aload_n hX (pc := 173) dX2_take_173 5 rfl ?_
            refine g_getNm hX (pc := 174) fcX13 (sp_in 9 rfl k15) 8 (by decide) q1072 rfl (v := .ref ra1) rfl dX2_take_174 ?_
            refine g_alen hX (pc := 177) (sp_in 9 rfl k26) 3 rfl (v := (nI (List.length ges3))) rfl dX2_take_177 ?_
            refine g_iadd hX (pc := 178) dX2_take_178 ?_
            refine g_eqi (nI (gN g + List.length (gE g))) (by rw [hme]; exact nI_add _ _) ?_
            refine g_istore hX (pc := 179) (lv1 := [(5, .int (nI (gN g + List.length (gE g)))), (4, .int (nI (gN g))), (3, .ref rl13), (0, .ref n), (1, .ref m), (2, .ref a)]) dX2_take_179 (by decide) rfl ?_
            refine g_aload_n hX (pc := 181) dX2_take_181 4 rfl ?_
            refine g_aload_n hX (pc := 182) dX2_take_182 4 rfl ?_
            refine g_getN hX (pc := 183) fcX9 3 rfl 8 (by decide) q945 rfl (v := .int (nI (mSu M))) rfl dX2_take_183 ?_
            refine g_iload hX (pc := 186) dX2_take_186 0 rfl ?_
            refine g_aload_n hX (pc := 188) dX2_take_188 5 rfl ?_
            refine g_getNm hX (pc := 189) fcX13 (sp_in 9 rfl k15) 7 (by decide) q1070 rfl (v := .int (nI (gS g))) rfl dX2_take_189 ?_
            refine g_mmin hX (pc := 192) q232 (Nat.le_of_ble_eq_true rfl) (Nat.le_of_ble_eq_true rfl) (by omega) (by omega) q_m1min q_m2 q_m3min dX2_take_192 ?_
            refine g_eqi (nI (min (gN g + List.length (gE g)) (gS g))) (al_min (by omega) (by omega)) ?_
            refine g_mmax hX (pc := 195) q241 (Nat.le_of_ble_eq_true rfl) (Nat.le_of_ble_eq_true rfl) (by omega) (by omega) q_m1max q_m2 q_m3max dX2_take_195 ?_
            refine g_eqi (nI (max (mSu M) (min (gN g + List.length (gE g)) (gS g)))) (al_max (by omega) (by omega)) ?_
            refine g_putN hX (pc := 198) fcX9 3 (fs1 := [.int (nI (mN M)), .ref rn11, .ref rk12, .ref rl13, .ref rs14, .ref rst15, .int (mR M), .int (mVt M), .int (nI (max (mSu M) (min (gN g + List.length (gE g)) (gS g)))), .int (nI (mDn M)), .int (bI (mLz M))]) (cs1 := [[(rl13, ob 9 [.ref la25, .int (lT (mL M)), .int (lV (mL M)), .int (nI (lB (mL M))), .int (lBT (mL M)), .ref sp26])], w1, [(n, ob 1 [.ref lm, .ref lb, .ref lr, .int (Prod.snd B), .int nw])], [(m, ob 8 [.int (nI (mN M)), .ref rn11, .ref rk12, .ref rl13, .ref rs14, .ref rst15, .int (mR M), .int (mVt M), .int (nI (max (mSu M) (min (gN g + List.length (gE g)) (gS g)))), .int (nI (mDn M)), .int (bI (mLz M))])], [(rn11, iA (aC E 0) 5 fn16)], [(rk12, iA (aC E 0) 5 fk17)], ws19, wst20, wb, fz]) rfl 8 (by decide) q945 rfl rfl rfl rfl (Nat.le_of_ble_eq_true rfl) rfl rfl dX2_take_198 ?_
            refine g_pk [3, 3, 3, 0, 0, 1, 1] rfl ?_
            refine g_cs (cs1 := [[(m, ob 8 [.int (nI (mN M)), .ref rn11, .ref rk12, .ref rl13, .ref rs14, .ref rst15, .int (mR M), .int (mVt M), .int (nI (max (mSu M) (min (gN g + List.length (gE g)) (gS g)))), .int (nI (mDn M)), .int (bI (mLz M))])], [(rn11, iA (aC E 0) 5 fn16)], [(rk12, iA (aC E 0) 5 fk17)], [(rl13, ob 9 [.ref la25, .int (lT (mL M)), .int (lV (mL M)), .int (nI (lB (mL M))), .int (lBT (mL M)), .ref sp26])], w1, ws19, wst20, [(n, ob 1 [.ref lm, .ref lb, .ref lr, .int (Prod.snd B), .int nw])], wb, fz]) rfl ?_
            refine g_fl (cs1 := [((m, ob 8 [.int (nI (mN M)), .ref rn11, .ref rk12, .ref rl13, .ref rs14, .ref rst15, .int (mR M), .int (mVt M), .int (nI (max (mSu M) (min (gN g + List.length (gE g)) (gS g)))), .int (nI (mDn M)), .int (bI (mLz M))]) :: (rn11, iA (aC E 0) 5 fn16) :: (rk12, iA (aC E 0) 5 fk17) :: (((rl13, ob 9 [.ref la25, .int (lT (mL M)), .int (lV (mL M)), .int (nI (lB (mL M))), .int (lBT (mL M)), .ref sp26]) :: w1) ++ (ws19 ++ wst20))), [(n, ob 1 [.ref lm, .ref lb, .ref lr, .int (Prod.snd B), .int nw])], wb, fz]) (by simp only [List.flatten_cons, List.flatten_nil, List.cons_append, List.append_assoc, List.nil_append, List.append_nil]) ?_
            have hM48 : IsMach E fz m (mTake M g) ((m, ob 8 [.int (nI (mN M)), .ref rn11, .ref rk12, .ref rl13, .ref rs14, .ref rst15, .int (mR M), .int (mVt M), .int (nI (max (mSu M) (min (gN g + List.length (gE g)) (gS g)))), .int (nI (mDn M)), .int (bI (mLz M))]) :: (rn11, iA (aC E 0) 5 fn16) :: (rk12, iA (aC E 0) 5 fk17) :: (((rl13, ob 9 [.ref la25, .int (lT (mL M)), .int (lV (mL M)), .int (nI (lB (mL M))), .int (lBT (mL M)), .ref sp26]) :: w1) ++ (ws19 ++ wst20))) := ⟨_, _, _, _, _, _, _, _, _, _, hn21, ⟨_, _, _, _, hE1, (by rw [hgs, d2]; rfl), hsp30, rfl⟩, hV23, hS24, rfl⟩
            generalize ((m, ob 8 [.int (nI (mN M)), .ref rn11, .ref rk12, .ref rl13, .ref rs14, .ref rst15, .int (mR M), .int (mVt M), .int (nI (max (mSu M) (min (gN g + List.length (gE g)) (gS g)))), .int (nI (mDn M)), .int (bI (mLz M))]) :: (rn11, iA (aC E 0) 5 fn16) :: (rk12, iA (aC E 0) 5 fk17) :: (((rl13, ob 9 [.ref la25, .int (lT (mL M)), .int (lV (mL M)), .int (nI (lB (mL M))), .int (lBT (mL M)), .ref sp26]) :: w1) ++ (ws19 ++ wst20))) = wk49 at hM48 ⊢
            refine g_aload_n hX (pc := 201) dX2_take_201 3 rfl ?_
            refine g_aload_n hX (pc := 202) dX2_take_202 4 rfl ?_
            refine g_aload_n hX (pc := 203) dX2_take_203 5 rfl ?_
            refine g_gets hX (pc := 204) (v := .ref (aW E 3)) ((cx_gs hX).2.1.1 3 (by decide)).1 q1223 rfl dX2_take_204 ?_
            refine g_iconst hX (pc := 207) (v := 1) dX2_take_207 (by decide) ?_
            refine g_eqi (bI true) (rfl) ?_
            refine g_iload hX (pc := 208) dX2_take_208 0 rfl ?_
            refine g_callV hX (pc := 210) kX2_answer (mt_Net_answer E l n lm lb lr nw m (mTake M g) wk49 fz B wb a g 3 true (gN g + List.length (gE g)) hM48 hB hg (by omega)) q1211 fcX2 (sp_mem (i := 1) rfl) [1, 0, 0, 0] rfl rfl rfl (Nat.le_of_ble_eq_true rfl) (Nat.le_of_ble_eq_true rfl) (Nat.le_of_ble_eq_true rfl) (by omega) (by omega) dX2_take_210 (fun v w1 hp => ?_)
            obtain ⟨fz150, w151, w252, h53, h54, h55, rfl, rfl⟩ := hp
            refine g_nrm (cs1 := [[(n, ob 1 [.ref lm, .ref lb, .ref lr, .int (Prod.snd (bSend B (mkA 3 (mTake M g) (gF g) true (gN g + List.length (gE g))))), .int nw])], w151, w252, fz150]) (st1 := []) rfl rfl ?_
            have h56 := BL.mono h53 hB
            have h57 := MsgIn.mono h53 hg
            have h58 := StIn.mono h53 k610
            have h59 := EL.mono h53 hE28
            have h60 := StIn.mono h53 hsp30
            have h61 := IsMach.mono h53 hM48
            refine g_vret hX (pc := 213) hR ?_ (by omega) (by omega) dX2_take_213
            rw [show pTake M B g = _ from if_neg hnt]
            exact ⟨_, _, _, h53, h54, h55, rfl, rfl⟩
          · have d2 : i < List.length ges3 := by
              have := mt (nI_leI (by omega) (by omega)).mpr c47
              omega
            obtain ⟨gm, hgm⟩ := get_ex d2
            have hmz := k59 gm (List.mem_of_getElem? hgm)
            have hge : (gE g)[i]? = some gm.2 := by rw [← k48]; exact map_get2 hgm
            have hgl : List.length gs = ((tkUp (lB (mL M)) (lE (mL M)) (gN g) (gE g) i)).length := by rw [← hgs, List.length_map]
            have hui := hup i
            have hus : (tkUp (lB (mL M)) (lE (mL M)) (gN g) (gE g) (i + 1)) = tkStep (lB (mL M)) (List.map Prod.snd gs) (gN g + 1 + i) gm.2 := by rw [hgs, ← get_D hge]; rfl
            refine g_iload hX (pc := 81) dX2_take_81 1 rfl ?_
            refine g_iconst hX (pc := 83) (v := 1) dX2_take_83 (by decide) ?_
            refine g_iadd hX (pc := 84) dX2_take_84 ?_
            refine g_eqi (nI (gN g + 1)) (nI_1 _) ?_
            refine g_iload hX (pc := 85) dX2_take_85 0 rfl ?_
            refine g_iadd hX (pc := 87) dX2_take_87 ?_
            refine g_eqi (nI (gN g + 1 + i)) (nI_add _ _) ?_
            refine g_istore hX (pc := 88) (lv1 := [(6, .int (nI (gN g + 1 + i))), (5, .int (nI i)), (4, .int (nI (gN g))), (3, .ref rl13), (0, .ref n), (1, .ref m), (2, .ref a)]) dX2_take_88 (by decide) rfl ?_
            refine g_iload hX (pc := 90) dX2_take_90 0 rfl ?_
            refine g_aload_n hX (pc := 92) dX2_take_92 3 rfl ?_
            refine g_getN hX (pc := 93) fcX10 0 rfl 3 (by decide) q852 rfl (v := .int (nI (lB (mL M)))) rfl dX2_take_93 ?_
            refine g_icmp_gt hX (pc := 96) (tgt := 102) dX2_take_96 rfl (fun c62 => ?_) (fun c62 => ?_)
            · have d3 : ¬ gN g + 1 + i ≤ lB (mL M) := by
                have := (nI_ltI (by omega) (by omega)).mp c62
                omega
              refine g_aload_n hX (pc := 102) dX2_take_102 3 rfl ?_
              refine g_iload hX (pc := 103) dX2_take_103 0 rfl ?_
              refine g_callV hX (pc := 105) kX10_has (mt_Log_has E l rl13 la25 (lT (mL M)) (lV (mL M)) (lB (mL M)) (lBT (mL M)) sp26 fz gs w1 (gN g + 1 + i) hE1 (by omega) (by omega)) q1250 fcX10 (sp_mem (i := 0) rfl) [0, 0] rfl rfl rfl (Nat.le_of_ble_eq_true rfl) (Nat.le_of_ble_eq_true rfl) (Nat.le_of_ble_eq_true rfl) (by omega) (by omega) dX2_take_105 (fun v w1 hp => ?_)
              obtain ⟨rfl, rfl⟩ := hp
              refine g_nrm (cs1 := [[(rl13, ob 9 [.ref la25, .int (lT (mL M)), .int (lV (mL M)), .int (nI (lB (mL M))), .int (lBT (mL M)), .ref sp26])], w1, [(n, ob 1 [.ref lm, .ref lb, .ref lr, .int (Prod.snd B), .int nw])], [(m, ob 8 [.int (nI (mN M)), .ref rn11, .ref rk12, .ref rl13, .ref rs14, .ref rst15, .int (mR M), .int (mVt M), .int (nI (mSu M)), .int (nI (mDn M)), .int (bI (mLz M))])], [(rn11, iA (aC E 0) 5 fn16)], [(rk12, iA (aC E 0) 5 fk17)], ws19, wst20, wb, fz]) (st1 := [.int (if (lB (mL M)) < (gN g + 1 + i) ∧ (gN g + 1 + i) ≤ (lB (mL M)) + List.length gs then 1 else 0)]) rfl rfl ?_
              refine g_if_eq hX (pc := 108) (tgt := 139) dX2_take_108 rfl (fun c63_ => ?_) (fun c63_ => ?_)
              · have c63 := z10.mp c63_
                refine g_aload_n hX (pc := 139) dX2_take_139 3 rfl ?_
                refine g_iload hX (pc := 140) dX2_take_140 0 rfl ?_
                refine g_callV hX (pc := 142) kX10_has (mt_Log_has E l rl13 la25 (lT (mL M)) (lV (mL M)) (lB (mL M)) (lBT (mL M)) sp26 fz gs w1 (gN g + 1 + i) hE1 (by (first | omega | (rw [List.length_take]; omega))) (by (first | omega | (rw [List.length_take]; omega)))) q1250 fcX10 (sp_mem (i := 0) rfl) [0, 0] rfl rfl rfl (Nat.le_of_ble_eq_true rfl) (Nat.le_of_ble_eq_true rfl) (Nat.le_of_ble_eq_true rfl) (by omega) (by omega) dX2_take_142 (fun v w1 hp => ?_)
                obtain ⟨rfl, rfl⟩ := hp
                refine g_nrm (cs1 := [[(rl13, ob 9 [.ref la25, .int (lT (mL M)), .int (lV (mL M)), .int (nI (lB (mL M))), .int (lBT (mL M)), .ref sp26])], w1, [(n, ob 1 [.ref lm, .ref lb, .ref lr, .int (Prod.snd B), .int nw])], [(m, ob 8 [.int (nI (mN M)), .ref rn11, .ref rk12, .ref rl13, .ref rs14, .ref rst15, .int (mR M), .int (mVt M), .int (nI (mSu M)), .int (nI (mDn M)), .int (bI (mLz M))])], [(rn11, iA (aC E 0) 5 fn16)], [(rk12, iA (aC E 0) 5 fk17)], ws19, wst20, wb, fz]) (st1 := [.int (if (lB (mL M)) < (gN g + 1 + i) ∧ (gN g + 1 + i) ≤ (lB (mL M)) + List.length gs then 1 else 0)]) rfl rfl ?_
                refine g_if_ne hX (pc := 145) (tgt := 165) dX2_take_145 rfl (fun c64_ => ?_) (fun c64_ => ?_)
                · have c64 := z10n.mp c64_
                  exact absurd c64 c63
                · have c64 := z10.mp c64_
                  have hal : (List.map Prod.fst gs).length ≤ 33 := by
                    have := List.length_take_le (gN g + 1 + i - lB (mL M) - 1) gs
                    rw [List.length_map]; omega
                  refine g_aload_n hX (pc := 148) dX2_take_148 3 rfl ?_
                  refine g_getN hX (pc := 149) fcX10 0 rfl 0 (by decide) q840 rfl (v := .ref la25) rfl dX2_take_149 ?_
                  refine g_aload_n hX (pc := 152) dX2_take_152 6 rfl ?_
                  refine g_getNm hX (pc := 153) fcX13 (sp_in 9 rfl k15) 8 (by decide) q1072 rfl (v := .ref ra1) rfl dX2_take_153 ?_
                  refine g_iload hX (pc := 156) dX2_take_156 1 rfl ?_
                  refine g_aald hX (pc := 158) (t0 := 3) rfl (sp_in 9 rfl k26) (y := gm.1) (vp_in_nI (by omega) (by omega)) (by rw [nI_clamp (by omega), k37 i d2]; exact map_get hgm) dX2_take_158 ?_
                  obtain ⟨fs65, hm66⟩ := AL.head hE1.1
                  refine g_callF hX (pc := 159) kfJ2_add_2 (mt_AL_add E l la25 (List.map Prod.fst gs) w1 gm.1 fz 33 hE1.1 (hal) (by omega) (Or.inl ⟨12, _, hmz, by omega⟩) (en_ok hE1.2)) q976 fcJ2 (sp_in 1 rfl hm66) [1, 8] rfl rfl rfl (Nat.le_of_ble_eq_true rfl) (Nat.le_of_ble_eq_true rfl) (Nat.le_of_ble_eq_true rfl) (by omega) (by omega) dX2_take_159 (fun v w1 hp => ?_)
                  obtain ⟨w167, h68, rfl, rfl⟩ := hp
                  refine g_nrm (cs1 := [w167, fz, [(rl13, ob 9 [.ref la25, .int (lT (mL M)), .int (lV (mL M)), .int (nI (lB (mL M))), .int (lBT (mL M)), .ref sp26])], [(n, ob 1 [.ref lm, .ref lb, .ref lr, .int (Prod.snd B), .int nw])], [(m, ob 8 [.int (nI (mN M)), .ref rn11, .ref rk12, .ref rl13, .ref rs14, .ref rst15, .int (mR M), .int (mVt M), .int (nI (mSu M)), .int (nI (mDn M)), .int (bI (mLz M))])], [(rn11, iA (aC E 0) 5 fn16)], [(rk12, iA (aC E 0) 5 fk17)], ws19, wst20, wb]) (st1 := [.int 1]) rfl rfl ?_
                  have hE69 : EL E fz la25 (gs ++ [gm]) w167 := el_add hE1 hmz h68
                  refine g_pop hX (pc := 164) dX2_take_164 rfl ?_
                  refine g_iinc hX (pc := 165) (v := nI (i + 1)) (lv1 := [(5, .int (nI (i + 1))), (6, .int (nI (gN g + 1 + i))), (4, .int (nI (gN g))), (3, .ref rl13), (0, .ref n), (1, .ref m), (2, .ref a)]) dX2_take_165 1 rfl (nI_1 _) (by decide) rfl ?_
                  refine g_goto hX (pc := 168) (tgt := 71) dX2_take_168 rfl ?_
                  refine g_pk [2, 0, 1, 1, 1, 1, 1, 1, 1, 0] rfl ?_
                  refine g_cs (cs1 := [[(rl13, ob 9 [.ref la25, .int (lT (mL M)), .int (lV (mL M)), .int (nI (lB (mL M))), .int (lBT (mL M)), .ref sp26])], w167, [(n, ob 1 [.ref lm, .ref lb, .ref lr, .int (Prod.snd B), .int nw])], [(m, ob 8 [.int (nI (mN M)), .ref rn11, .ref rk12, .ref rl13, .ref rs14, .ref rst15, .int (mR M), .int (mVt M), .int (nI (mSu M)), .int (nI (mDn M)), .int (bI (mLz M))])], [(rn11, iA (aC E 0) 5 fn16)], [(rk12, iA (aC E 0) 5 fk17)], ws19, wst20, wb, fz]) rfl ?_
                  refine g_lv (lv1 := [(5, .int (nI (i + 1))), (4, .int (nI (gN g))), (3, .ref rl13), (0, .ref n), (1, .ref m), (2, .ref a)]) [0, 2, 3, 4, 5, 6] rfl ?_
                  refine g_widen (kc1 := i + 1) (ks1 := 76 * (i + 1)) (by omega) (by omega) ?_
                  exact ih1 (i + 1) (gs ++ [gm]) w167 (by omega) (by omega) hE69 (by rw [hus, tk_D d3 (by rw [List.length_map]; exact c63), List.map_append]; rfl)
              · have c63 := z10n.mp c63_
                obtain ⟨ge, hge1⟩ := get_ex (l := gs) (i := gN g + 1 + i - lB (mL M) - 1) (by omega)
                have hz1 := (en_at hE1.2 hge1).1
                refine g_aload_n hX (pc := 111) dX2_take_111 3 rfl ?_
                refine g_iload hX (pc := 112) dX2_take_112 0 rfl ?_
                refine g_callV hX (pc := 114) kX10_at (mt_Log_at E l rl13 la25 (lT (mL M)) (lV (mL M)) (lB (mL M)) (lBT (mL M)) sp26 fz gs w1 (gN g + 1 + i) ge hE1 (hge1) (by omega) (by omega)) q248 fcX10 (sp_mem (i := 0) rfl) [0, 0, 7] rfl rfl rfl (Nat.le_of_ble_eq_true rfl) (Nat.le_of_ble_eq_true rfl) (Nat.le_of_ble_eq_true rfl) (by omega) (by omega) dX2_take_114 (fun v w1 hp => ?_)
                obtain ⟨rfl, rfl⟩ := hp
                refine g_nrm (cs1 := [[(rl13, ob 9 [.ref la25, .int (lT (mL M)), .int (lV (mL M)), .int (nI (lB (mL M))), .int (lBT (mL M)), .ref sp26])], w1, fz, [(n, ob 1 [.ref lm, .ref lb, .ref lr, .int (Prod.snd B), .int nw])], [(m, ob 8 [.int (nI (mN M)), .ref rn11, .ref rk12, .ref rl13, .ref rs14, .ref rst15, .int (mR M), .int (mVt M), .int (nI (mSu M)), .int (nI (mDn M)), .int (bI (mLz M))])], [(rn11, iA (aC E 0) 5 fn16)], [(rk12, iA (aC E 0) 5 fk17)], ws19, wst20, wb]) (st1 := [.ref ge.1]) rfl rfl ?_
                refine g_getNm hX (pc := 117) fcX14 (sp_in 2 rfl hz1) 0 (by decide) q1118 rfl (v := .int ge.2.1) rfl dX2_take_117 ?_
                refine g_aload_n hX (pc := 120) dX2_take_120 6 rfl ?_
                refine g_getNm hX (pc := 121) fcX13 (sp_in 2 rfl k15) 8 (by decide) q1072 rfl (v := .ref ra1) rfl dX2_take_121 ?_
                refine g_iload hX (pc := 124) dX2_take_124 1 rfl ?_
                refine g_aald hX (pc := 126) (t0 := 3) rfl (sp_in 2 rfl k26) (y := gm.1) (vp_in_nI (by omega) (by omega)) (by rw [nI_clamp (by omega), k37 i d2]; exact map_get hgm) dX2_take_126 ?_
                refine g_getNm hX (pc := 127) fcX14 (sp_in 2 rfl hmz) 0 (by decide) q1118 rfl (v := .int gm.2.1) rfl dX2_take_127 ?_
                refine g_icmp_eq hX (pc := 130) (tgt := 139) dX2_take_130 rfl (fun c70 => ?_) (fun c70 => ?_)
                · refine g_aload_n hX (pc := 139) dX2_take_139 3 rfl ?_
                  refine g_iload hX (pc := 140) dX2_take_140 0 rfl ?_
                  refine g_callV hX (pc := 142) kX10_has (mt_Log_has E l rl13 la25 (lT (mL M)) (lV (mL M)) (lB (mL M)) (lBT (mL M)) sp26 fz gs w1 (gN g + 1 + i) hE1 (by (first | omega | (rw [List.length_take]; omega))) (by (first | omega | (rw [List.length_take]; omega)))) q1250 fcX10 (sp_mem (i := 0) rfl) [0, 0] rfl rfl rfl (Nat.le_of_ble_eq_true rfl) (Nat.le_of_ble_eq_true rfl) (Nat.le_of_ble_eq_true rfl) (by omega) (by omega) dX2_take_142 (fun v w1 hp => ?_)
                  obtain ⟨rfl, rfl⟩ := hp
                  refine g_nrm (cs1 := [[(rl13, ob 9 [.ref la25, .int (lT (mL M)), .int (lV (mL M)), .int (nI (lB (mL M))), .int (lBT (mL M)), .ref sp26])], w1, fz, [(n, ob 1 [.ref lm, .ref lb, .ref lr, .int (Prod.snd B), .int nw])], [(m, ob 8 [.int (nI (mN M)), .ref rn11, .ref rk12, .ref rl13, .ref rs14, .ref rst15, .int (mR M), .int (mVt M), .int (nI (mSu M)), .int (nI (mDn M)), .int (bI (mLz M))])], [(rn11, iA (aC E 0) 5 fn16)], [(rk12, iA (aC E 0) 5 fk17)], ws19, wst20, wb]) (st1 := [.int (if (lB (mL M)) < (gN g + 1 + i) ∧ (gN g + 1 + i) ≤ (lB (mL M)) + List.length gs then 1 else 0)]) rfl rfl ?_
                  refine g_if_ne hX (pc := 145) (tgt := 165) dX2_take_145 rfl (fun c71_ => ?_) (fun c71_ => ?_)
                  · have c71 := z10n.mp c71_
                    refine g_iinc hX (pc := 165) (v := nI (i + 1)) (lv1 := [(5, .int (nI (i + 1))), (6, .int (nI (gN g + 1 + i))), (4, .int (nI (gN g))), (3, .ref rl13), (0, .ref n), (1, .ref m), (2, .ref a)]) dX2_take_165 1 rfl (nI_1 _) (by decide) rfl ?_
                    refine g_goto hX (pc := 168) (tgt := 71) dX2_take_168 rfl ?_
                    refine g_pk [0, 0, 1, 1, 1, 1, 1, 1, 1, 0] rfl ?_
                    refine g_cs (cs1 := [[(rl13, ob 9 [.ref la25, .int (lT (mL M)), .int (lV (mL M)), .int (nI (lB (mL M))), .int (lBT (mL M)), .ref sp26])], w1, [(n, ob 1 [.ref lm, .ref lb, .ref lr, .int (Prod.snd B), .int nw])], [(m, ob 8 [.int (nI (mN M)), .ref rn11, .ref rk12, .ref rl13, .ref rs14, .ref rst15, .int (mR M), .int (mVt M), .int (nI (mSu M)), .int (nI (mDn M)), .int (bI (mLz M))])], [(rn11, iA (aC E 0) 5 fn16)], [(rk12, iA (aC E 0) 5 fk17)], ws19, wst20, wb, fz]) rfl ?_
                    refine g_lv (lv1 := [(5, .int (nI (i + 1))), (4, .int (nI (gN g))), (3, .ref rl13), (0, .ref n), (1, .ref m), (2, .ref a)]) [0, 2, 3, 4, 5, 6] rfl ?_
                    refine g_widen (kc1 := i + 1) (ks1 := 76 * (i + 1)) (by omega) (by omega) ?_
                    exact ih1 (i + 1) gs w1 (by omega) (by omega) hE1 (by rw [hus, tk_B d3 (by rw [List.length_map]; exact c63) (map_get2 hge1) c70])
                  · have c71 := z10.mp c71_
                    exact absurd c63 c71
                · refine g_aload_n hX (pc := 133) dX2_take_133 3 rfl ?_
                  refine g_iload hX (pc := 134) dX2_take_134 0 rfl ?_
                  refine g_callV hX (pc := 136) kX10_cutFrom (mt_Log_cutFrom E l rl13 la25 (lT (mL M)) (lV (mL M)) (lB (mL M)) (lBT (mL M)) sp26 fz gs w1 (gN g + 1 + i) hE1 (by omega) (by omega) (by omega)) q1230 fcX10 (sp_mem (i := 0) rfl) [0, 0, 0] rfl rfl rfl (Nat.le_of_ble_eq_true rfl) (Nat.le_of_ble_eq_true rfl) (Nat.le_of_ble_eq_true rfl) (by omega) (by omega) dX2_take_136 (fun v w1 hp => ?_)
                  obtain ⟨w172, h73, rfl, rfl⟩ := hp
                  refine g_nrm (cs1 := [[(rl13, ob 9 [.ref la25, .int (lT (mL M)), .int (lV (mL M)), .int (nI (lB (mL M))), .int (lBT (mL M)), .ref sp26])], w172, fz, [(n, ob 1 [.ref lm, .ref lb, .ref lr, .int (Prod.snd B), .int nw])], [(m, ob 8 [.int (nI (mN M)), .ref rn11, .ref rk12, .ref rl13, .ref rs14, .ref rst15, .int (mR M), .int (mVt M), .int (nI (mSu M)), .int (nI (mDn M)), .int (bI (mLz M))])], [(rn11, iA (aC E 0) 5 fn16)], [(rk12, iA (aC E 0) 5 fk17)], ws19, wst20, wb]) (st1 := []) rfl rfl ?_
                  refine g_aload_n hX (pc := 139) dX2_take_139 3 rfl ?_
                  refine g_iload hX (pc := 140) dX2_take_140 0 rfl ?_
                  refine g_callV hX (pc := 142) kX10_has (mt_Log_has E l rl13 la25 (lT (mL M)) (lV (mL M)) (lB (mL M)) (lBT (mL M)) sp26 fz (List.take ((gN g + 1 + i) - (lB (mL M)) - 1) gs) w172 (gN g + 1 + i) h73 (by (first | omega | (rw [List.length_take]; omega))) (by (first | omega | (rw [List.length_take]; omega)))) q1250 fcX10 (sp_mem (i := 0) rfl) [0, 0] rfl rfl rfl (Nat.le_of_ble_eq_true rfl) (Nat.le_of_ble_eq_true rfl) (Nat.le_of_ble_eq_true rfl) (by omega) (by omega) dX2_take_142 (fun v w1 hp => ?_)
                  obtain ⟨rfl, rfl⟩ := hp
                  refine g_nrm (cs1 := [[(rl13, ob 9 [.ref la25, .int (lT (mL M)), .int (lV (mL M)), .int (nI (lB (mL M))), .int (lBT (mL M)), .ref sp26])], w172, fz, [(n, ob 1 [.ref lm, .ref lb, .ref lr, .int (Prod.snd B), .int nw])], [(m, ob 8 [.int (nI (mN M)), .ref rn11, .ref rk12, .ref rl13, .ref rs14, .ref rst15, .int (mR M), .int (mVt M), .int (nI (mSu M)), .int (nI (mDn M)), .int (bI (mLz M))])], [(rn11, iA (aC E 0) 5 fn16)], [(rk12, iA (aC E 0) 5 fk17)], ws19, wst20, wb]) (st1 := [.int (if (lB (mL M)) < (gN g + 1 + i) ∧ (gN g + 1 + i) ≤ (lB (mL M)) + List.length (List.take ((gN g + 1 + i) - (lB (mL M)) - 1) gs) then 1 else 0)]) rfl rfl ?_
                  refine g_if_ne hX (pc := 145) (tgt := 165) dX2_take_145 rfl (fun c74_ => ?_) (fun c74_ => ?_)
                  · have c74 := z10n.mp c74_
                    exact absurd c74 (by rw [List.length_take]; omega)
                  · have c74 := z10.mp c74_
                    have hal : (List.map Prod.fst (List.take ((gN g + 1 + i) - (lB (mL M)) - 1) gs)).length ≤ 33 := by
                      have := List.length_take_le (gN g + 1 + i - lB (mL M) - 1) gs
                      rw [List.length_map]; omega
                    refine g_aload_n hX (pc := 148) dX2_take_148 3 rfl ?_
                    refine g_getN hX (pc := 149) fcX10 0 rfl 0 (by decide) q840 rfl (v := .ref la25) rfl dX2_take_149 ?_
                    refine g_aload_n hX (pc := 152) dX2_take_152 6 rfl ?_
                    refine g_getNm hX (pc := 153) fcX13 (sp_in 2 rfl k15) 8 (by decide) q1072 rfl (v := .ref ra1) rfl dX2_take_153 ?_
                    refine g_iload hX (pc := 156) dX2_take_156 1 rfl ?_
                    refine g_aald hX (pc := 158) (t0 := 3) rfl (sp_in 2 rfl k26) (y := gm.1) (vp_in_nI (by omega) (by omega)) (by rw [nI_clamp (by omega), k37 i d2]; exact map_get hgm) dX2_take_158 ?_
                    obtain ⟨fs75, hm76⟩ := AL.head h73.1
                    refine g_callF hX (pc := 159) kfJ2_add_2 (mt_AL_add E l la25 (List.map Prod.fst (List.take ((gN g + 1 + i) - (lB (mL M)) - 1) gs)) w172 gm.1 fz 33 h73.1 (hal) (by omega) (Or.inl ⟨12, _, hmz, by omega⟩) (en_ok h73.2)) q976 fcJ2 (sp_in 1 rfl hm76) [1, 1] rfl rfl rfl (Nat.le_of_ble_eq_true rfl) (Nat.le_of_ble_eq_true rfl) (Nat.le_of_ble_eq_true rfl) (by omega) (by omega) dX2_take_159 (fun v w1 hp => ?_)
                    obtain ⟨w177, h78, rfl, rfl⟩ := hp
                    refine g_nrm (cs1 := [w177, fz, [(rl13, ob 9 [.ref la25, .int (lT (mL M)), .int (lV (mL M)), .int (nI (lB (mL M))), .int (lBT (mL M)), .ref sp26])], [(n, ob 1 [.ref lm, .ref lb, .ref lr, .int (Prod.snd B), .int nw])], [(m, ob 8 [.int (nI (mN M)), .ref rn11, .ref rk12, .ref rl13, .ref rs14, .ref rst15, .int (mR M), .int (mVt M), .int (nI (mSu M)), .int (nI (mDn M)), .int (bI (mLz M))])], [(rn11, iA (aC E 0) 5 fn16)], [(rk12, iA (aC E 0) 5 fk17)], ws19, wst20, wb]) (st1 := [.int 1]) rfl rfl ?_
                    have hE79 : EL E fz la25 (List.take ((gN g + 1 + i) - (lB (mL M)) - 1) gs ++ [gm]) w177 := el_add h73 hmz h78
                    refine g_pop hX (pc := 164) dX2_take_164 rfl ?_
                    refine g_iinc hX (pc := 165) (v := nI (i + 1)) (lv1 := [(5, .int (nI (i + 1))), (6, .int (nI (gN g + 1 + i))), (4, .int (nI (gN g))), (3, .ref rl13), (0, .ref n), (1, .ref m), (2, .ref a)]) dX2_take_165 1 rfl (nI_1 _) (by decide) rfl ?_
                    refine g_goto hX (pc := 168) (tgt := 71) dX2_take_168 rfl ?_
                    refine g_pk [2, 0, 1, 1, 1, 1, 1, 1, 1, 0] rfl ?_
                    refine g_cs (cs1 := [[(rl13, ob 9 [.ref la25, .int (lT (mL M)), .int (lV (mL M)), .int (nI (lB (mL M))), .int (lBT (mL M)), .ref sp26])], w177, [(n, ob 1 [.ref lm, .ref lb, .ref lr, .int (Prod.snd B), .int nw])], [(m, ob 8 [.int (nI (mN M)), .ref rn11, .ref rk12, .ref rl13, .ref rs14, .ref rst15, .int (mR M), .int (mVt M), .int (nI (mSu M)), .int (nI (mDn M)), .int (bI (mLz M))])], [(rn11, iA (aC E 0) 5 fn16)], [(rk12, iA (aC E 0) 5 fk17)], ws19, wst20, wb, fz]) rfl ?_
                    refine g_lv (lv1 := [(5, .int (nI (i + 1))), (4, .int (nI (gN g))), (3, .ref rl13), (0, .ref n), (1, .ref m), (2, .ref a)]) [0, 2, 3, 4, 5, 6] rfl ?_
                    refine g_widen (kc1 := i + 1) (ks1 := 76 * (i + 1)) (by omega) (by omega) ?_
                    exact ih1 (i + 1) (List.take ((gN g + 1 + i) - (lB (mL M)) - 1) gs ++ [gm]) w177 (by omega) (by omega) hE79 (by rw [hus, tk_C d3 (by rw [List.length_map]; exact c63) (map_get2 hge1) c70, List.map_append, List.map_take]; rfl)
            · have d3 : gN g + 1 + i ≤ lB (mL M) := by
                have := mt (nI_ltI (by omega) (by omega)).mpr c62
                omega
              refine g_goto hX (pc := 99) (tgt := 165) dX2_take_99 rfl ?_
              refine g_iinc hX (pc := 165) (v := nI (i + 1)) (lv1 := [(5, .int (nI (i + 1))), (6, .int (nI (gN g + 1 + i))), (4, .int (nI (gN g))), (3, .ref rl13), (0, .ref n), (1, .ref m), (2, .ref a)]) dX2_take_165 1 rfl (nI_1 _) (by decide) rfl ?_
              refine g_goto hX (pc := 168) (tgt := 71) dX2_take_168 rfl ?_
              refine g_lv (lv1 := [(5, .int (nI (i + 1))), (4, .int (nI (gN g))), (3, .ref rl13), (0, .ref n), (1, .ref m), (2, .ref a)]) [0, 2, 3, 4, 5, 6] rfl ?_
              refine g_widen (kc1 := i + 1) (ks1 := 76 * (i + 1)) (by omega) (by omega) ?_
              exact ih1 (i + 1) gs w1 (by omega) (by omega) hE1 (by rw [hus, tk_A (by omega)])
      refine g_widen (kc1 := 0) (ks1 := 76 * 0) (by omega) (by omega) ?_
      exact lp46 ((List.length (gE g) - 0) + 1) 0 ges27 wl18 (Nat.lt_succ_self _) (Nat.zero_le _) hE28 (hges29)
    · have d1 : lB (mL M) < gN g := by
        have := mt (nI_leI (by omega) (by omega)).mpr c45
        omega
      refine g_aload_n hX (pc := 29) dX2_take_29 1 rfl ?_
      refine g_iload hX (pc := 30) dX2_take_30 0 rfl ?_
      obtain ⟨g80, hg81, ht82⟩ := tm_ex (L := (mL M)) (n := gN g) hges29 (by omega) (by omega)
      refine g_callV hX (pc := 32) kX10_termAt (mt_Log_termAt E l rl13 la25 (lT (mL M)) (lV (mL M)) (lB (mL M)) (lBT (mL M)) sp26 fz ges27 wl18 (gN g) g80 hE28 (hg81) (by omega) (by omega)) q1044 fcX10 (sp_mem (i := 0) rfl) [0, 0, 7] rfl rfl rfl (Nat.le_of_ble_eq_true rfl) (Nat.le_of_ble_eq_true rfl) (Nat.le_of_ble_eq_true rfl) (by omega) (by omega) dX2_take_32 (fun v w1 hp => ?_)
      obtain ⟨rfl, rfl⟩ := hp
      refine g_nrm (cs1 := [[(rl13, ob 9 [.ref la25, .int (lT (mL M)), .int (lV (mL M)), .int (nI (lB (mL M))), .int (lBT (mL M)), .ref sp26])], wl18, fz, [(n, ob 1 [.ref lm, .ref lb, .ref lr, .int (Prod.snd B), .int nw])], [(m, ob 8 [.int (nI (mN M)), .ref rn11, .ref rk12, .ref rl13, .ref rs14, .ref rst15, .int (mR M), .int (mVt M), .int (nI (mSu M)), .int (nI (mDn M)), .int (bI (mLz M))])], [(rn11, iA (aC E 0) 5 fn16)], [(rk12, iA (aC E 0) 5 fk17)], ws19, wst20, wb]) (st1 := [.int (if (gN g) = (lB (mL M)) then (lBT (mL M)) else g80.2.1)]) rfl rfl ?_
      refine g_eqi (lTmA (mL M) (gN g)) (ht82) ?_
      refine g_aload_n hX (pc := 35) dX2_take_35 4 rfl ?_
      refine g_getNm hX (pc := 36) fcX13 (sp_in 2 rfl k15) 5 (by decide) q1067 rfl (v := .int (gIt g)) rfl dX2_take_36 ?_
      refine g_icmp_eq hX (pc := 39) (tgt := 68) dX2_take_39 rfl (fun c83 => ?_) (fun c83 => ?_)
      · have hnt : ¬ tkNot M g := fun z => z.elim (fun z => absurd d0 (by omega)) (fun z => z.2 c83)
        refine g_iconst hX (pc := 68) (v := 0) dX2_take_68 (by decide) ?_
        refine g_eqi (nI 0) (nI_0.symm) ?_
        refine g_istore hX (pc := 69) (lv1 := [(5, .int (nI 0)), (4, .int (nI (gN g))), (3, .ref rl13), (0, .ref n), (1, .ref m), (2, .ref a)]) dX2_take_69 (by decide) rfl ?_
        have hup := tkUp_le (b := lB (mL M)) (es := lE (mL M)) (a := gN g) (en := gE g) (by omega)
        have hme : List.length ges3 = List.length (gE g) := by rw [← k48, List.length_map]
        have lp84 : ∀ (F2 : Nat) (i : Nat) (gs : List (Nat × PEn)) (w1 : va_W), List.length (gE g) - i < F2 → (i ≤ List.length (gE g)) → EL E fz la25 gs w1 → (List.map Prod.snd gs = (tkUp (lB (mL M)) (lE (mL M)) (gN g) (gE g) i)) → G E l X [[(rl13, ob 9 [.ref la25, .int (lT (mL M)), .int (lV (mL M)), .int (nI (lB (mL M))), .int (lBT (mL M)), .ref sp26])], w1, fz, [(n, ob 1 [.ref lm, .ref lb, .ref lr, .int (Prod.snd B), .int nw])], [(m, ob 8 [.int (nI (mN M)), .ref rn11, .ref rk12, .ref rl13, .ref rs14, .ref rst15, .int (mR M), .int (mVt M), .int (nI (mSu M)), .int (nI (mDn M)), .int (bI (mLz M))])], [(rn11, iA (aC E 0) 5 fn16)], [(rk12, iA (aC E 0) 5 fk17)], ws19, wst20, wb] i (76 * i) 71 [(5, .int (nI i)), (4, .int (nI (gN g))), (3, .ref rl13), (0, .ref n), (1, .ref m), (2, .ref a)] [] := by
          intro F2
          induction F2 with
          | zero =>
            intro i gs w1 hF hi hE1 hgs
            exact absurd hF (Nat.not_lt_zero _)
          | succ F2 ih2 =>
            intro i gs w1 hF hi hE1 hgs
            refine g_iload hX (pc := 71) dX2_take_71 0 rfl ?_
            refine g_aload_n hX (pc := 73) dX2_take_73 5 rfl ?_
            refine g_getNm hX (pc := 74) fcX13 (sp_in 2 rfl k15) 8 (by decide) q1072 rfl (v := .ref ra1) rfl dX2_take_74 ?_
            refine g_alen hX (pc := 77) (sp_in 2 rfl k26) 3 rfl (v := (nI (List.length ges3))) rfl dX2_take_77 ?_
            refine g_icmp_ge hX (pc := 78) (tgt := 171) dX2_take_78 rfl (fun c85 => ?_) (fun c85 => ?_)
            · have d2 : i = List.length (gE g) := by
                have := (nI_leI (by omega) (by omega)).mp c85
                omega
              refine g_iload hX (pc := 171) dX2_take_171 1 rfl ?_
              refine g_aload_n hX (pc := 173) dX2_take_173 5 rfl ?_
              refine g_getNm hX (pc := 174) fcX13 (sp_in 2 rfl k15) 8 (by decide) q1072 rfl (v := .ref ra1) rfl dX2_take_174 ?_
              refine g_alen hX (pc := 177) (sp_in 2 rfl k26) 3 rfl (v := (nI (List.length ges3))) rfl dX2_take_177 ?_
              refine g_iadd hX (pc := 178) dX2_take_178 ?_
              refine g_eqi (nI (gN g + List.length (gE g))) (by rw [hme]; exact nI_add _ _) ?_
              refine g_istore hX (pc := 179) (lv1 := [(5, .int (nI (gN g + List.length (gE g)))), (4, .int (nI (gN g))), (3, .ref rl13), (0, .ref n), (1, .ref m), (2, .ref a)]) dX2_take_179 (by decide) rfl ?_
              refine g_aload_n hX (pc := 181) dX2_take_181 4 rfl ?_
              refine g_aload_n hX (pc := 182) dX2_take_182 4 rfl ?_
              refine g_getN hX (pc := 183) fcX9 4 rfl 8 (by decide) q945 rfl (v := .int (nI (mSu M))) rfl dX2_take_183 ?_
              refine g_iload hX (pc := 186) dX2_take_186 0 rfl ?_
              refine g_aload_n hX (pc := 188) dX2_take_188 5 rfl ?_
              refine g_getNm hX (pc := 189) fcX13 (sp_in 2 rfl k15) 7 (by decide) q1070 rfl (v := .int (nI (gS g))) rfl dX2_take_189 ?_
              refine g_mmin hX (pc := 192) q232 (Nat.le_of_ble_eq_true rfl) (Nat.le_of_ble_eq_true rfl) (by omega) (by omega) q_m1min q_m2 q_m3min dX2_take_192 ?_
              refine g_eqi (nI (min (gN g + List.length (gE g)) (gS g))) (al_min (by omega) (by omega)) ?_
              refine g_mmax hX (pc := 195) q241 (Nat.le_of_ble_eq_true rfl) (Nat.le_of_ble_eq_true rfl) (by omega) (by omega) q_m1max q_m2 q_m3max dX2_take_195 ?_
              refine g_eqi (nI (max (mSu M) (min (gN g + List.length (gE g)) (gS g)))) (al_max (by omega) (by omega)) ?_
              refine g_putN hX (pc := 198) fcX9 4 (fs1 := [.int (nI (mN M)), .ref rn11, .ref rk12, .ref rl13, .ref rs14, .ref rst15, .int (mR M), .int (mVt M), .int (nI (max (mSu M) (min (gN g + List.length (gE g)) (gS g)))), .int (nI (mDn M)), .int (bI (mLz M))]) (cs1 := [[(rl13, ob 9 [.ref la25, .int (lT (mL M)), .int (lV (mL M)), .int (nI (lB (mL M))), .int (lBT (mL M)), .ref sp26])], w1, fz, [(n, ob 1 [.ref lm, .ref lb, .ref lr, .int (Prod.snd B), .int nw])], [(m, ob 8 [.int (nI (mN M)), .ref rn11, .ref rk12, .ref rl13, .ref rs14, .ref rst15, .int (mR M), .int (mVt M), .int (nI (max (mSu M) (min (gN g + List.length (gE g)) (gS g)))), .int (nI (mDn M)), .int (bI (mLz M))])], [(rn11, iA (aC E 0) 5 fn16)], [(rk12, iA (aC E 0) 5 fk17)], ws19, wst20, wb]) rfl 8 (by decide) q945 rfl rfl rfl rfl (Nat.le_of_ble_eq_true rfl) rfl rfl dX2_take_198 ?_
              refine g_pk [4, 4, 4, 0, 0, 2, 2] rfl ?_
              refine g_cs (cs1 := [[(m, ob 8 [.int (nI (mN M)), .ref rn11, .ref rk12, .ref rl13, .ref rs14, .ref rst15, .int (mR M), .int (mVt M), .int (nI (max (mSu M) (min (gN g + List.length (gE g)) (gS g)))), .int (nI (mDn M)), .int (bI (mLz M))])], [(rn11, iA (aC E 0) 5 fn16)], [(rk12, iA (aC E 0) 5 fk17)], [(rl13, ob 9 [.ref la25, .int (lT (mL M)), .int (lV (mL M)), .int (nI (lB (mL M))), .int (lBT (mL M)), .ref sp26])], w1, ws19, wst20, fz, [(n, ob 1 [.ref lm, .ref lb, .ref lr, .int (Prod.snd B), .int nw])], wb]) rfl ?_
              refine g_fl (cs1 := [((m, ob 8 [.int (nI (mN M)), .ref rn11, .ref rk12, .ref rl13, .ref rs14, .ref rst15, .int (mR M), .int (mVt M), .int (nI (max (mSu M) (min (gN g + List.length (gE g)) (gS g)))), .int (nI (mDn M)), .int (bI (mLz M))]) :: (rn11, iA (aC E 0) 5 fn16) :: (rk12, iA (aC E 0) 5 fk17) :: (((rl13, ob 9 [.ref la25, .int (lT (mL M)), .int (lV (mL M)), .int (nI (lB (mL M))), .int (lBT (mL M)), .ref sp26]) :: w1) ++ (ws19 ++ wst20))), fz, [(n, ob 1 [.ref lm, .ref lb, .ref lr, .int (Prod.snd B), .int nw])], wb]) (by simp only [List.flatten_cons, List.flatten_nil, List.cons_append, List.append_assoc, List.nil_append, List.append_nil]) ?_
              have hM86 : IsMach E fz m (mTake M g) ((m, ob 8 [.int (nI (mN M)), .ref rn11, .ref rk12, .ref rl13, .ref rs14, .ref rst15, .int (mR M), .int (mVt M), .int (nI (max (mSu M) (min (gN g + List.length (gE g)) (gS g)))), .int (nI (mDn M)), .int (bI (mLz M))]) :: (rn11, iA (aC E 0) 5 fn16) :: (rk12, iA (aC E 0) 5 fk17) :: (((rl13, ob 9 [.ref la25, .int (lT (mL M)), .int (lV (mL M)), .int (nI (lB (mL M))), .int (lBT (mL M)), .ref sp26]) :: w1) ++ (ws19 ++ wst20))) := ⟨_, _, _, _, _, _, _, _, _, _, hn21, ⟨_, _, _, _, hE1, (by rw [hgs, d2]; rfl), hsp30, rfl⟩, hV23, hS24, rfl⟩
              generalize ((m, ob 8 [.int (nI (mN M)), .ref rn11, .ref rk12, .ref rl13, .ref rs14, .ref rst15, .int (mR M), .int (mVt M), .int (nI (max (mSu M) (min (gN g + List.length (gE g)) (gS g)))), .int (nI (mDn M)), .int (bI (mLz M))]) :: (rn11, iA (aC E 0) 5 fn16) :: (rk12, iA (aC E 0) 5 fk17) :: (((rl13, ob 9 [.ref la25, .int (lT (mL M)), .int (lV (mL M)), .int (nI (lB (mL M))), .int (lBT (mL M)), .ref sp26]) :: w1) ++ (ws19 ++ wst20))) = wk87 at hM86 ⊢
              refine g_aload_n hX (pc := 201) dX2_take_201 3 rfl ?_
              refine g_aload_n hX (pc := 202) dX2_take_202 4 rfl ?_
              refine g_aload_n hX (pc := 203) dX2_take_203 5 rfl ?_
              refine g_gets hX (pc := 204) (v := .ref (aW E 3)) ((cx_gs hX).2.1.1 3 (by decide)).1 q1223 rfl dX2_take_204 ?_
              refine g_iconst hX (pc := 207) (v := 1) dX2_take_207 (by decide) ?_
              refine g_eqi (bI true) (rfl) ?_
              refine g_iload hX (pc := 208) dX2_take_208 0 rfl ?_
              refine g_callV hX (pc := 210) kX2_answer (mt_Net_answer E l n lm lb lr nw m (mTake M g) wk87 fz B wb a g 3 true (gN g + List.length (gE g)) hM86 hB hg (by omega)) q1211 fcX2 (sp_mem (i := 2) rfl) [2, 0, 1, 0] rfl rfl rfl (Nat.le_of_ble_eq_true rfl) (Nat.le_of_ble_eq_true rfl) (Nat.le_of_ble_eq_true rfl) (by omega) (by omega) dX2_take_210 (fun v w1 hp => ?_)
              obtain ⟨fz188, w189, w290, h91, h92, h93, rfl, rfl⟩ := hp
              refine g_nrm (cs1 := [[(n, ob 1 [.ref lm, .ref lb, .ref lr, .int (Prod.snd (bSend B (mkA 3 (mTake M g) (gF g) true (gN g + List.length (gE g))))), .int nw])], w189, w290, fz188]) (st1 := []) rfl rfl ?_
              have h94 := BL.mono h91 hB
              have h95 := MsgIn.mono h91 hg
              have h96 := StIn.mono h91 k610
              have h97 := EL.mono h91 hE28
              have h98 := StIn.mono h91 hsp30
              have h99 := IsMach.mono h91 hM86
              refine g_vret hX (pc := 213) hR ?_ (by omega) (by omega) dX2_take_213
              rw [show pTake M B g = _ from if_neg hnt]
              exact ⟨_, _, _, h91, h92, h93, rfl, rfl⟩
            · have d2 : i < List.length ges3 := by
                have := mt (nI_leI (by omega) (by omega)).mpr c85
                omega
              obtain ⟨gm, hgm⟩ := get_ex d2
              have hmz := k59 gm (List.mem_of_getElem? hgm)
              have hge : (gE g)[i]? = some gm.2 := by rw [← k48]; exact map_get2 hgm
              have hgl : List.length gs = ((tkUp (lB (mL M)) (lE (mL M)) (gN g) (gE g) i)).length := by rw [← hgs, List.length_map]
              have hui := hup i
              have hus : (tkUp (lB (mL M)) (lE (mL M)) (gN g) (gE g) (i + 1)) = tkStep (lB (mL M)) (List.map Prod.snd gs) (gN g + 1 + i) gm.2 := by rw [hgs, ← get_D hge]; rfl
              refine g_iload hX (pc := 81) dX2_take_81 1 rfl ?_
              refine g_iconst hX (pc := 83) (v := 1) dX2_take_83 (by decide) ?_
              refine g_iadd hX (pc := 84) dX2_take_84 ?_
              refine g_eqi (nI (gN g + 1)) (nI_1 _) ?_
              refine g_iload hX (pc := 85) dX2_take_85 0 rfl ?_
              refine g_iadd hX (pc := 87) dX2_take_87 ?_
              refine g_eqi (nI (gN g + 1 + i)) (nI_add _ _) ?_
              refine g_istore hX (pc := 88) (lv1 := [(6, .int (nI (gN g + 1 + i))), (5, .int (nI i)), (4, .int (nI (gN g))), (3, .ref rl13), (0, .ref n), (1, .ref m), (2, .ref a)]) dX2_take_88 (by decide) rfl ?_
              refine g_iload hX (pc := 90) dX2_take_90 0 rfl ?_
              refine g_aload_n hX (pc := 92) dX2_take_92 3 rfl ?_
              refine g_getN hX (pc := 93) fcX10 0 rfl 3 (by decide) q852 rfl (v := .int (nI (lB (mL M)))) rfl dX2_take_93 ?_
              refine g_icmp_gt hX (pc := 96) (tgt := 102) dX2_take_96 rfl (fun c100 => ?_) (fun c100 => ?_)
              · have d3 : ¬ gN g + 1 + i ≤ lB (mL M) := by
                  have := (nI_ltI (by omega) (by omega)).mp c100
                  omega
                refine g_aload_n hX (pc := 102) dX2_take_102 3 rfl ?_
                refine g_iload hX (pc := 103) dX2_take_103 0 rfl ?_
                refine g_callV hX (pc := 105) kX10_has (mt_Log_has E l rl13 la25 (lT (mL M)) (lV (mL M)) (lB (mL M)) (lBT (mL M)) sp26 fz gs w1 (gN g + 1 + i) hE1 (by omega) (by omega)) q1250 fcX10 (sp_mem (i := 0) rfl) [0, 0] rfl rfl rfl (Nat.le_of_ble_eq_true rfl) (Nat.le_of_ble_eq_true rfl) (Nat.le_of_ble_eq_true rfl) (by omega) (by omega) dX2_take_105 (fun v w1 hp => ?_)
                obtain ⟨rfl, rfl⟩ := hp
                refine g_nrm (cs1 := [[(rl13, ob 9 [.ref la25, .int (lT (mL M)), .int (lV (mL M)), .int (nI (lB (mL M))), .int (lBT (mL M)), .ref sp26])], w1, fz, [(n, ob 1 [.ref lm, .ref lb, .ref lr, .int (Prod.snd B), .int nw])], [(m, ob 8 [.int (nI (mN M)), .ref rn11, .ref rk12, .ref rl13, .ref rs14, .ref rst15, .int (mR M), .int (mVt M), .int (nI (mSu M)), .int (nI (mDn M)), .int (bI (mLz M))])], [(rn11, iA (aC E 0) 5 fn16)], [(rk12, iA (aC E 0) 5 fk17)], ws19, wst20, wb]) (st1 := [.int (if (lB (mL M)) < (gN g + 1 + i) ∧ (gN g + 1 + i) ≤ (lB (mL M)) + List.length gs then 1 else 0)]) rfl rfl ?_
                refine g_if_eq hX (pc := 108) (tgt := 139) dX2_take_108 rfl (fun c101_ => ?_) (fun c101_ => ?_)
                · have c101 := z10.mp c101_
                  refine g_aload_n hX (pc := 139) dX2_take_139 3 rfl ?_
                  refine g_iload hX (pc := 140) dX2_take_140 0 rfl ?_
                  refine g_callV hX (pc := 142) kX10_has (mt_Log_has E l rl13 la25 (lT (mL M)) (lV (mL M)) (lB (mL M)) (lBT (mL M)) sp26 fz gs w1 (gN g + 1 + i) hE1 (by (first | omega | (rw [List.length_take]; omega))) (by (first | omega | (rw [List.length_take]; omega)))) q1250 fcX10 (sp_mem (i := 0) rfl) [0, 0] rfl rfl rfl (Nat.le_of_ble_eq_true rfl) (Nat.le_of_ble_eq_true rfl) (Nat.le_of_ble_eq_true rfl) (by omega) (by omega) dX2_take_142 (fun v w1 hp => ?_)
                  obtain ⟨rfl, rfl⟩ := hp
                  refine g_nrm (cs1 := [[(rl13, ob 9 [.ref la25, .int (lT (mL M)), .int (lV (mL M)), .int (nI (lB (mL M))), .int (lBT (mL M)), .ref sp26])], w1, fz, [(n, ob 1 [.ref lm, .ref lb, .ref lr, .int (Prod.snd B), .int nw])], [(m, ob 8 [.int (nI (mN M)), .ref rn11, .ref rk12, .ref rl13, .ref rs14, .ref rst15, .int (mR M), .int (mVt M), .int (nI (mSu M)), .int (nI (mDn M)), .int (bI (mLz M))])], [(rn11, iA (aC E 0) 5 fn16)], [(rk12, iA (aC E 0) 5 fk17)], ws19, wst20, wb]) (st1 := [.int (if (lB (mL M)) < (gN g + 1 + i) ∧ (gN g + 1 + i) ≤ (lB (mL M)) + List.length gs then 1 else 0)]) rfl rfl ?_
                  refine g_if_ne hX (pc := 145) (tgt := 165) dX2_take_145 rfl (fun c102_ => ?_) (fun c102_ => ?_)
                  · have c102 := z10n.mp c102_
                    exact absurd c102 c101
                  · have c102 := z10.mp c102_
                    have hal : (List.map Prod.fst gs).length ≤ 33 := by
                      have := List.length_take_le (gN g + 1 + i - lB (mL M) - 1) gs
                      rw [List.length_map]; omega
                    refine g_aload_n hX (pc := 148) dX2_take_148 3 rfl ?_
                    refine g_getN hX (pc := 149) fcX10 0 rfl 0 (by decide) q840 rfl (v := .ref la25) rfl dX2_take_149 ?_
                    refine g_aload_n hX (pc := 152) dX2_take_152 6 rfl ?_
                    refine g_getNm hX (pc := 153) fcX13 (sp_in 2 rfl k15) 8 (by decide) q1072 rfl (v := .ref ra1) rfl dX2_take_153 ?_
                    refine g_iload hX (pc := 156) dX2_take_156 1 rfl ?_
                    refine g_aald hX (pc := 158) (t0 := 3) rfl (sp_in 2 rfl k26) (y := gm.1) (vp_in_nI (by omega) (by omega)) (by rw [nI_clamp (by omega), k37 i d2]; exact map_get hgm) dX2_take_158 ?_
                    obtain ⟨fs103, hm104⟩ := AL.head hE1.1
                    refine g_callF hX (pc := 159) kfJ2_add_2 (mt_AL_add E l la25 (List.map Prod.fst gs) w1 gm.1 fz 33 hE1.1 (hal) (by omega) (Or.inl ⟨12, _, hmz, by omega⟩) (en_ok hE1.2)) q976 fcJ2 (sp_in 1 rfl hm104) [1, 1] rfl rfl rfl (Nat.le_of_ble_eq_true rfl) (Nat.le_of_ble_eq_true rfl) (Nat.le_of_ble_eq_true rfl) (by omega) (by omega) dX2_take_159 (fun v w1 hp => ?_)
                    obtain ⟨w1105, h106, rfl, rfl⟩ := hp
                    refine g_nrm (cs1 := [w1105, fz, [(rl13, ob 9 [.ref la25, .int (lT (mL M)), .int (lV (mL M)), .int (nI (lB (mL M))), .int (lBT (mL M)), .ref sp26])], [(n, ob 1 [.ref lm, .ref lb, .ref lr, .int (Prod.snd B), .int nw])], [(m, ob 8 [.int (nI (mN M)), .ref rn11, .ref rk12, .ref rl13, .ref rs14, .ref rst15, .int (mR M), .int (mVt M), .int (nI (mSu M)), .int (nI (mDn M)), .int (bI (mLz M))])], [(rn11, iA (aC E 0) 5 fn16)], [(rk12, iA (aC E 0) 5 fk17)], ws19, wst20, wb]) (st1 := [.int 1]) rfl rfl ?_
                    have hE107 : EL E fz la25 (gs ++ [gm]) w1105 := el_add hE1 hmz h106
                    refine g_pop hX (pc := 164) dX2_take_164 rfl ?_
                    refine g_iinc hX (pc := 165) (v := nI (i + 1)) (lv1 := [(5, .int (nI (i + 1))), (6, .int (nI (gN g + 1 + i))), (4, .int (nI (gN g))), (3, .ref rl13), (0, .ref n), (1, .ref m), (2, .ref a)]) dX2_take_165 1 rfl (nI_1 _) (by decide) rfl ?_
                    refine g_goto hX (pc := 168) (tgt := 71) dX2_take_168 rfl ?_
                    refine g_pk [2, 0, 0, 0, 0, 0, 0, 0, 0, 0] rfl ?_
                    refine g_cs (cs1 := [[(rl13, ob 9 [.ref la25, .int (lT (mL M)), .int (lV (mL M)), .int (nI (lB (mL M))), .int (lBT (mL M)), .ref sp26])], w1105, fz, [(n, ob 1 [.ref lm, .ref lb, .ref lr, .int (Prod.snd B), .int nw])], [(m, ob 8 [.int (nI (mN M)), .ref rn11, .ref rk12, .ref rl13, .ref rs14, .ref rst15, .int (mR M), .int (mVt M), .int (nI (mSu M)), .int (nI (mDn M)), .int (bI (mLz M))])], [(rn11, iA (aC E 0) 5 fn16)], [(rk12, iA (aC E 0) 5 fk17)], ws19, wst20, wb]) rfl ?_
                    refine g_lv (lv1 := [(5, .int (nI (i + 1))), (4, .int (nI (gN g))), (3, .ref rl13), (0, .ref n), (1, .ref m), (2, .ref a)]) [0, 2, 3, 4, 5, 6] rfl ?_
                    refine g_widen (kc1 := i + 1) (ks1 := 76 * (i + 1)) (by omega) (by omega) ?_
                    exact ih2 (i + 1) (gs ++ [gm]) w1105 (by omega) (by omega) hE107 (by rw [hus, tk_D d3 (by rw [List.length_map]; exact c101), List.map_append]; rfl)
                · have c101 := z10n.mp c101_
                  obtain ⟨ge, hge1⟩ := get_ex (l := gs) (i := gN g + 1 + i - lB (mL M) - 1) (by omega)
                  have hz1 := (en_at hE1.2 hge1).1
                  refine g_aload_n hX (pc := 111) dX2_take_111 3 rfl ?_
                  refine g_iload hX (pc := 112) dX2_take_112 0 rfl ?_
                  refine g_callV hX (pc := 114) kX10_at (mt_Log_at E l rl13 la25 (lT (mL M)) (lV (mL M)) (lB (mL M)) (lBT (mL M)) sp26 fz gs w1 (gN g + 1 + i) ge hE1 (hge1) (by omega) (by omega)) q248 fcX10 (sp_mem (i := 0) rfl) [0, 0, 0] rfl rfl rfl (Nat.le_of_ble_eq_true rfl) (Nat.le_of_ble_eq_true rfl) (Nat.le_of_ble_eq_true rfl) (by omega) (by omega) dX2_take_114 (fun v w1 hp => ?_)
                  obtain ⟨rfl, rfl⟩ := hp
                  refine g_nrm (cs1 := [[(rl13, ob 9 [.ref la25, .int (lT (mL M)), .int (lV (mL M)), .int (nI (lB (mL M))), .int (lBT (mL M)), .ref sp26])], w1, fz, [(n, ob 1 [.ref lm, .ref lb, .ref lr, .int (Prod.snd B), .int nw])], [(m, ob 8 [.int (nI (mN M)), .ref rn11, .ref rk12, .ref rl13, .ref rs14, .ref rst15, .int (mR M), .int (mVt M), .int (nI (mSu M)), .int (nI (mDn M)), .int (bI (mLz M))])], [(rn11, iA (aC E 0) 5 fn16)], [(rk12, iA (aC E 0) 5 fk17)], ws19, wst20, wb]) (st1 := [.ref ge.1]) rfl rfl ?_
                  refine g_getNm hX (pc := 117) fcX14 (sp_in 2 rfl hz1) 0 (by decide) q1118 rfl (v := .int ge.2.1) rfl dX2_take_117 ?_
                  refine g_aload_n hX (pc := 120) dX2_take_120 6 rfl ?_
                  refine g_getNm hX (pc := 121) fcX13 (sp_in 2 rfl k15) 8 (by decide) q1072 rfl (v := .ref ra1) rfl dX2_take_121 ?_
                  refine g_iload hX (pc := 124) dX2_take_124 1 rfl ?_
                  refine g_aald hX (pc := 126) (t0 := 3) rfl (sp_in 2 rfl k26) (y := gm.1) (vp_in_nI (by omega) (by omega)) (by rw [nI_clamp (by omega), k37 i d2]; exact map_get hgm) dX2_take_126 ?_
                  refine g_getNm hX (pc := 127) fcX14 (sp_in 2 rfl hmz) 0 (by decide) q1118 rfl (v := .int gm.2.1) rfl dX2_take_127 ?_
                  refine g_icmp_eq hX (pc := 130) (tgt := 139) dX2_take_130 rfl (fun c108 => ?_) (fun c108 => ?_)
                  · refine g_aload_n hX (pc := 139) dX2_take_139 3 rfl ?_
                    refine g_iload hX (pc := 140) dX2_take_140 0 rfl ?_
                    refine g_callV hX (pc := 142) kX10_has (mt_Log_has E l rl13 la25 (lT (mL M)) (lV (mL M)) (lB (mL M)) (lBT (mL M)) sp26 fz gs w1 (gN g + 1 + i) hE1 (by (first | omega | (rw [List.length_take]; omega))) (by (first | omega | (rw [List.length_take]; omega)))) q1250 fcX10 (sp_mem (i := 0) rfl) [0, 0] rfl rfl rfl (Nat.le_of_ble_eq_true rfl) (Nat.le_of_ble_eq_true rfl) (Nat.le_of_ble_eq_true rfl) (by omega) (by omega) dX2_take_142 (fun v w1 hp => ?_)
                    obtain ⟨rfl, rfl⟩ := hp
                    refine g_nrm (cs1 := [[(rl13, ob 9 [.ref la25, .int (lT (mL M)), .int (lV (mL M)), .int (nI (lB (mL M))), .int (lBT (mL M)), .ref sp26])], w1, fz, [(n, ob 1 [.ref lm, .ref lb, .ref lr, .int (Prod.snd B), .int nw])], [(m, ob 8 [.int (nI (mN M)), .ref rn11, .ref rk12, .ref rl13, .ref rs14, .ref rst15, .int (mR M), .int (mVt M), .int (nI (mSu M)), .int (nI (mDn M)), .int (bI (mLz M))])], [(rn11, iA (aC E 0) 5 fn16)], [(rk12, iA (aC E 0) 5 fk17)], ws19, wst20, wb]) (st1 := [.int (if (lB (mL M)) < (gN g + 1 + i) ∧ (gN g + 1 + i) ≤ (lB (mL M)) + List.length gs then 1 else 0)]) rfl rfl ?_
                    refine g_if_ne hX (pc := 145) (tgt := 165) dX2_take_145 rfl (fun c109_ => ?_) (fun c109_ => ?_)
                    · have c109 := z10n.mp c109_
                      refine g_iinc hX (pc := 165) (v := nI (i + 1)) (lv1 := [(5, .int (nI (i + 1))), (6, .int (nI (gN g + 1 + i))), (4, .int (nI (gN g))), (3, .ref rl13), (0, .ref n), (1, .ref m), (2, .ref a)]) dX2_take_165 1 rfl (nI_1 _) (by decide) rfl ?_
                      refine g_goto hX (pc := 168) (tgt := 71) dX2_take_168 rfl ?_
                      refine g_lv (lv1 := [(5, .int (nI (i + 1))), (4, .int (nI (gN g))), (3, .ref rl13), (0, .ref n), (1, .ref m), (2, .ref a)]) [0, 2, 3, 4, 5, 6] rfl ?_
                      refine g_widen (kc1 := i + 1) (ks1 := 76 * (i + 1)) (by omega) (by omega) ?_
                      exact ih2 (i + 1) gs w1 (by omega) (by omega) hE1 (by rw [hus, tk_B d3 (by rw [List.length_map]; exact c101) (map_get2 hge1) c108])
                    · have c109 := z10.mp c109_
                      exact absurd c101 c109
                  · refine g_aload_n hX (pc := 133) dX2_take_133 3 rfl ?_
                    refine g_iload hX (pc := 134) dX2_take_134 0 rfl ?_
                    refine g_callV hX (pc := 136) kX10_cutFrom (mt_Log_cutFrom E l rl13 la25 (lT (mL M)) (lV (mL M)) (lB (mL M)) (lBT (mL M)) sp26 fz gs w1 (gN g + 1 + i) hE1 (by omega) (by omega) (by omega)) q1230 fcX10 (sp_mem (i := 0) rfl) [0, 0, 0] rfl rfl rfl (Nat.le_of_ble_eq_true rfl) (Nat.le_of_ble_eq_true rfl) (Nat.le_of_ble_eq_true rfl) (by omega) (by omega) dX2_take_136 (fun v w1 hp => ?_)
                    obtain ⟨w1110, h111, rfl, rfl⟩ := hp
                    refine g_nrm (cs1 := [[(rl13, ob 9 [.ref la25, .int (lT (mL M)), .int (lV (mL M)), .int (nI (lB (mL M))), .int (lBT (mL M)), .ref sp26])], w1110, fz, [(n, ob 1 [.ref lm, .ref lb, .ref lr, .int (Prod.snd B), .int nw])], [(m, ob 8 [.int (nI (mN M)), .ref rn11, .ref rk12, .ref rl13, .ref rs14, .ref rst15, .int (mR M), .int (mVt M), .int (nI (mSu M)), .int (nI (mDn M)), .int (bI (mLz M))])], [(rn11, iA (aC E 0) 5 fn16)], [(rk12, iA (aC E 0) 5 fk17)], ws19, wst20, wb]) (st1 := []) rfl rfl ?_
                    refine g_aload_n hX (pc := 139) dX2_take_139 3 rfl ?_
                    refine g_iload hX (pc := 140) dX2_take_140 0 rfl ?_
                    refine g_callV hX (pc := 142) kX10_has (mt_Log_has E l rl13 la25 (lT (mL M)) (lV (mL M)) (lB (mL M)) (lBT (mL M)) sp26 fz (List.take ((gN g + 1 + i) - (lB (mL M)) - 1) gs) w1110 (gN g + 1 + i) h111 (by (first | omega | (rw [List.length_take]; omega))) (by (first | omega | (rw [List.length_take]; omega)))) q1250 fcX10 (sp_mem (i := 0) rfl) [0, 0] rfl rfl rfl (Nat.le_of_ble_eq_true rfl) (Nat.le_of_ble_eq_true rfl) (Nat.le_of_ble_eq_true rfl) (by omega) (by omega) dX2_take_142 (fun v w1 hp => ?_)
                    obtain ⟨rfl, rfl⟩ := hp
                    refine g_nrm (cs1 := [[(rl13, ob 9 [.ref la25, .int (lT (mL M)), .int (lV (mL M)), .int (nI (lB (mL M))), .int (lBT (mL M)), .ref sp26])], w1110, fz, [(n, ob 1 [.ref lm, .ref lb, .ref lr, .int (Prod.snd B), .int nw])], [(m, ob 8 [.int (nI (mN M)), .ref rn11, .ref rk12, .ref rl13, .ref rs14, .ref rst15, .int (mR M), .int (mVt M), .int (nI (mSu M)), .int (nI (mDn M)), .int (bI (mLz M))])], [(rn11, iA (aC E 0) 5 fn16)], [(rk12, iA (aC E 0) 5 fk17)], ws19, wst20, wb]) (st1 := [.int (if (lB (mL M)) < (gN g + 1 + i) ∧ (gN g + 1 + i) ≤ (lB (mL M)) + List.length (List.take ((gN g + 1 + i) - (lB (mL M)) - 1) gs) then 1 else 0)]) rfl rfl ?_
                    refine g_if_ne hX (pc := 145) (tgt := 165) dX2_take_145 rfl (fun c112_ => ?_) (fun c112_ => ?_)
                    · have c112 := z10n.mp c112_
                      exact absurd c112 (by rw [List.length_take]; omega)
                    · have c112 := z10.mp c112_
                      have hal : (List.map Prod.fst (List.take ((gN g + 1 + i) - (lB (mL M)) - 1) gs)).length ≤ 33 := by
                        have := List.length_take_le (gN g + 1 + i - lB (mL M) - 1) gs
                        rw [List.length_map]; omega
                      refine g_aload_n hX (pc := 148) dX2_take_148 3 rfl ?_
                      refine g_getN hX (pc := 149) fcX10 0 rfl 0 (by decide) q840 rfl (v := .ref la25) rfl dX2_take_149 ?_
                      refine g_aload_n hX (pc := 152) dX2_take_152 6 rfl ?_
                      refine g_getNm hX (pc := 153) fcX13 (sp_in 2 rfl k15) 8 (by decide) q1072 rfl (v := .ref ra1) rfl dX2_take_153 ?_
                      refine g_iload hX (pc := 156) dX2_take_156 1 rfl ?_
                      refine g_aald hX (pc := 158) (t0 := 3) rfl (sp_in 2 rfl k26) (y := gm.1) (vp_in_nI (by omega) (by omega)) (by rw [nI_clamp (by omega), k37 i d2]; exact map_get hgm) dX2_take_158 ?_
                      obtain ⟨fs113, hm114⟩ := AL.head h111.1
                      refine g_callF hX (pc := 159) kfJ2_add_2 (mt_AL_add E l la25 (List.map Prod.fst (List.take ((gN g + 1 + i) - (lB (mL M)) - 1) gs)) w1110 gm.1 fz 33 h111.1 (hal) (by omega) (Or.inl ⟨12, _, hmz, by omega⟩) (en_ok h111.2)) q976 fcJ2 (sp_in 1 rfl hm114) [1, 1] rfl rfl rfl (Nat.le_of_ble_eq_true rfl) (Nat.le_of_ble_eq_true rfl) (Nat.le_of_ble_eq_true rfl) (by omega) (by omega) dX2_take_159 (fun v w1 hp => ?_)
                      obtain ⟨w1115, h116, rfl, rfl⟩ := hp
                      refine g_nrm (cs1 := [w1115, fz, [(rl13, ob 9 [.ref la25, .int (lT (mL M)), .int (lV (mL M)), .int (nI (lB (mL M))), .int (lBT (mL M)), .ref sp26])], [(n, ob 1 [.ref lm, .ref lb, .ref lr, .int (Prod.snd B), .int nw])], [(m, ob 8 [.int (nI (mN M)), .ref rn11, .ref rk12, .ref rl13, .ref rs14, .ref rst15, .int (mR M), .int (mVt M), .int (nI (mSu M)), .int (nI (mDn M)), .int (bI (mLz M))])], [(rn11, iA (aC E 0) 5 fn16)], [(rk12, iA (aC E 0) 5 fk17)], ws19, wst20, wb]) (st1 := [.int 1]) rfl rfl ?_
                      have hE117 : EL E fz la25 (List.take ((gN g + 1 + i) - (lB (mL M)) - 1) gs ++ [gm]) w1115 := el_add h111 hmz h116
                      refine g_pop hX (pc := 164) dX2_take_164 rfl ?_
                      refine g_iinc hX (pc := 165) (v := nI (i + 1)) (lv1 := [(5, .int (nI (i + 1))), (6, .int (nI (gN g + 1 + i))), (4, .int (nI (gN g))), (3, .ref rl13), (0, .ref n), (1, .ref m), (2, .ref a)]) dX2_take_165 1 rfl (nI_1 _) (by decide) rfl ?_
                      refine g_goto hX (pc := 168) (tgt := 71) dX2_take_168 rfl ?_
                      refine g_pk [2, 0, 0, 0, 0, 0, 0, 0, 0, 0] rfl ?_
                      refine g_cs (cs1 := [[(rl13, ob 9 [.ref la25, .int (lT (mL M)), .int (lV (mL M)), .int (nI (lB (mL M))), .int (lBT (mL M)), .ref sp26])], w1115, fz, [(n, ob 1 [.ref lm, .ref lb, .ref lr, .int (Prod.snd B), .int nw])], [(m, ob 8 [.int (nI (mN M)), .ref rn11, .ref rk12, .ref rl13, .ref rs14, .ref rst15, .int (mR M), .int (mVt M), .int (nI (mSu M)), .int (nI (mDn M)), .int (bI (mLz M))])], [(rn11, iA (aC E 0) 5 fn16)], [(rk12, iA (aC E 0) 5 fk17)], ws19, wst20, wb]) rfl ?_
                      refine g_lv (lv1 := [(5, .int (nI (i + 1))), (4, .int (nI (gN g))), (3, .ref rl13), (0, .ref n), (1, .ref m), (2, .ref a)]) [0, 2, 3, 4, 5, 6] rfl ?_
                      refine g_widen (kc1 := i + 1) (ks1 := 76 * (i + 1)) (by omega) (by omega) ?_
                      exact ih2 (i + 1) (List.take ((gN g + 1 + i) - (lB (mL M)) - 1) gs ++ [gm]) w1115 (by omega) (by omega) hE117 (by rw [hus, tk_C d3 (by rw [List.length_map]; exact c101) (map_get2 hge1) c108, List.map_append, List.map_take]; rfl)
              · have d3 : gN g + 1 + i ≤ lB (mL M) := by
                  have := mt (nI_ltI (by omega) (by omega)).mpr c100
                  omega
                refine g_goto hX (pc := 99) (tgt := 165) dX2_take_99 rfl ?_
                refine g_iinc hX (pc := 165) (v := nI (i + 1)) (lv1 := [(5, .int (nI (i + 1))), (6, .int (nI (gN g + 1 + i))), (4, .int (nI (gN g))), (3, .ref rl13), (0, .ref n), (1, .ref m), (2, .ref a)]) dX2_take_165 1 rfl (nI_1 _) (by decide) rfl ?_
                refine g_goto hX (pc := 168) (tgt := 71) dX2_take_168 rfl ?_
                refine g_lv (lv1 := [(5, .int (nI (i + 1))), (4, .int (nI (gN g))), (3, .ref rl13), (0, .ref n), (1, .ref m), (2, .ref a)]) [0, 2, 3, 4, 5, 6] rfl ?_
                refine g_widen (kc1 := i + 1) (ks1 := 76 * (i + 1)) (by omega) (by omega) ?_
                exact ih2 (i + 1) gs w1 (by omega) (by omega) hE1 (by rw [hus, tk_A (by omega)])
        refine g_widen (kc1 := 0) (ks1 := 76 * 0) (by omega) (by omega) ?_
        exact lp84 ((List.length (gE g) - 0) + 1) 0 ges27 wl18 (Nat.lt_succ_self _) (Nat.zero_le _) hE28 (hges29)
      · have hnt : tkNot M g := Or.inr ⟨d1, c83⟩
        refine g_aload_n hX (pc := 42) dX2_take_42 2 rfl ?_
        refine g_aload_n hX (pc := 43) dX2_take_43 3 rfl ?_
        refine g_aload_n hX (pc := 44) dX2_take_44 4 rfl ?_
        refine g_gets hX (pc := 45) (v := .ref (aW E 3)) ((cx_gs hX).2.1.1 3 (by decide)).1 q1223 rfl dX2_take_45 ?_
        refine g_iconst hX (pc := 48) (v := 0) dX2_take_48 (by decide) ?_
        refine g_eqi (bI false) (rfl) ?_
        refine g_iconst hX (pc := 49) (v := 0) dX2_take_49 (by decide) ?_
        refine g_iload hX (pc := 50) dX2_take_50 0 rfl ?_
        refine g_iconst hX (pc := 52) (v := 1) dX2_take_52 (by decide) ?_
        refine g_isub hX (pc := 53) dX2_take_53 ?_
        refine g_eqi (nI (gN g - 1)) (pk_sub (b := 1) (by omega)) ?_
        refine g_mmax hX (pc := 54) q241 (Nat.le_of_ble_eq_true rfl) (Nat.le_of_ble_eq_true rfl) (by omega) (by omega) q_m1max q_m2 q_m3max dX2_take_54 ?_
        refine g_eqi (nI (gN g - 1)) (al_max0 (by omega)) ?_
        refine g_aload_n hX (pc := 57) dX2_take_57 1 rfl ?_
        refine g_callV hX (pc := 58) kX10_last (mt_Log_last E l rl13 la25 (lT (mL M)) (lV (mL M)) (lB (mL M)) (lBT (mL M)) sp26 fz ges27 wl18 hE28) q235 fcX10 (sp_mem (i := 0) rfl) [0, 0] rfl rfl rfl (Nat.le_of_ble_eq_true rfl) (Nat.le_of_ble_eq_true rfl) (Nat.le_of_ble_eq_true rfl) (by omega) (by omega) dX2_take_58 (fun v w1 hp => ?_)
        obtain ⟨rfl, rfl⟩ := hp
        refine g_nrm (cs1 := [[(rl13, ob 9 [.ref la25, .int (lT (mL M)), .int (lV (mL M)), .int (nI (lB (mL M))), .int (lBT (mL M)), .ref sp26])], wl18, fz, [(n, ob 1 [.ref lm, .ref lb, .ref lr, .int (Prod.snd B), .int nw])], [(m, ob 8 [.int (nI (mN M)), .ref rn11, .ref rk12, .ref rl13, .ref rs14, .ref rst15, .int (mR M), .int (mVt M), .int (nI (mSu M)), .int (nI (mDn M)), .int (bI (mLz M))])], [(rn11, iA (aC E 0) 5 fn16)], [(rk12, iA (aC E 0) 5 fk17)], ws19, wst20, wb]) (st1 := [.int (nI ((lB (mL M)) + List.length ges27)), .int (nI (gN g - 1)), .int (bI false), .ref (aW E 3), .ref a, .ref m, .ref n]) rfl rfl ?_
        refine g_eqi (nI (lLast (mL M))) (by rw [hl_ges27]) ?_
        refine g_mmin hX (pc := 61) q232 (Nat.le_of_ble_eq_true rfl) (Nat.le_of_ble_eq_true rfl) (by omega) (by omega) q_m1min q_m2 q_m3min dX2_take_61 ?_
        refine g_eqi (nI (min (gN g - 1) (lLast (mL M)))) (al_min (by omega) (by omega)) ?_
        refine g_pk [4, 4, 4, 0, 0, 2, 2] rfl ?_
        refine g_cs (cs1 := [[(m, ob 8 [.int (nI (mN M)), .ref rn11, .ref rk12, .ref rl13, .ref rs14, .ref rst15, .int (mR M), .int (mVt M), .int (nI (mSu M)), .int (nI (mDn M)), .int (bI (mLz M))])], [(rn11, iA (aC E 0) 5 fn16)], [(rk12, iA (aC E 0) 5 fk17)], [(rl13, ob 9 [.ref la25, .int (lT (mL M)), .int (lV (mL M)), .int (nI (lB (mL M))), .int (lBT (mL M)), .ref sp26])], wl18, ws19, wst20, fz, [(n, ob 1 [.ref lm, .ref lb, .ref lr, .int (Prod.snd B), .int nw])], wb]) rfl ?_
        refine g_fl (cs1 := [((m, ob 8 [.int (nI (mN M)), .ref rn11, .ref rk12, .ref rl13, .ref rs14, .ref rst15, .int (mR M), .int (mVt M), .int (nI (mSu M)), .int (nI (mDn M)), .int (bI (mLz M))]) :: (rn11, iA (aC E 0) 5 fn16) :: (rk12, iA (aC E 0) 5 fk17) :: (((rl13, ob 9 [.ref la25, .int (lT (mL M)), .int (lV (mL M)), .int (nI (lB (mL M))), .int (lBT (mL M)), .ref sp26]) :: wl18) ++ (ws19 ++ wst20))), fz, [(n, ob 1 [.ref lm, .ref lb, .ref lr, .int (Prod.snd B), .int nw])], wb]) (by simp only [List.flatten_cons, List.flatten_nil, List.cons_append, List.append_assoc, List.nil_append, List.append_nil]) ?_
        have hM118 : IsMach E fz m M ((m, ob 8 [.int (nI (mN M)), .ref rn11, .ref rk12, .ref rl13, .ref rs14, .ref rst15, .int (mR M), .int (mVt M), .int (nI (mSu M)), .int (nI (mDn M)), .int (bI (mLz M))]) :: (rn11, iA (aC E 0) 5 fn16) :: (rk12, iA (aC E 0) 5 fk17) :: (((rl13, ob 9 [.ref la25, .int (lT (mL M)), .int (lV (mL M)), .int (nI (lB (mL M))), .int (lBT (mL M)), .ref sp26]) :: wl18) ++ (ws19 ++ wst20))) := ⟨_, _, _, _, _, _, _, _, _, _, hn21, ⟨_, _, _, _, hE28, hges29, hsp30, rfl⟩, hV23, hS24, rfl⟩
        generalize ((m, ob 8 [.int (nI (mN M)), .ref rn11, .ref rk12, .ref rl13, .ref rs14, .ref rst15, .int (mR M), .int (mVt M), .int (nI (mSu M)), .int (nI (mDn M)), .int (bI (mLz M))]) :: (rn11, iA (aC E 0) 5 fn16) :: (rk12, iA (aC E 0) 5 fk17) :: (((rl13, ob 9 [.ref la25, .int (lT (mL M)), .int (lV (mL M)), .int (nI (lB (mL M))), .int (lBT (mL M)), .ref sp26]) :: wl18) ++ (ws19 ++ wst20))) = wk119 at hM118 ⊢
        refine g_callV hX (pc := 64) kX2_answer (mt_Net_answer E l n lm lb lr nw m M wk119 fz B wb a g 3 false (min (gN g - 1) (lLast (mL M))) hM118 hB hg (by omega)) q1211 fcX2 (sp_mem (i := 2) rfl) [2, 0, 1, 0] rfl rfl rfl (Nat.le_of_ble_eq_true rfl) (Nat.le_of_ble_eq_true rfl) (Nat.le_of_ble_eq_true rfl) (by omega) (by omega) dX2_take_64 (fun v w1 hp => ?_)
        obtain ⟨fz1120, w1121, w2122, h123, h124, h125, rfl, rfl⟩ := hp
        refine g_nrm (cs1 := [[(n, ob 1 [.ref lm, .ref lb, .ref lr, .int (Prod.snd (bSend B (mkA 3 M (gF g) false (min (gN g - 1) (lLast (mL M)))))), .int nw])], w1121, w2122, fz1120]) (st1 := []) rfl rfl ?_
        have h126 := BL.mono h123 hB
        have h127 := MsgIn.mono h123 hg
        have h128 := StIn.mono h123 k610
        have h129 := StIn.mono h123 hsp30
        have h130 := IsMach.mono h123 hM118
        refine g_vret hX (pc := 67) hR ?_ (by omega) (by omega) dX2_take_67
        rw [show pTake M B g = _ from if_pos hnt]
        exact ⟨_, _, _, h123, h124, h125, rfl, rfl⟩

set_option maxHeartbeats 4000000 in
theorem mt_Net_follow (E : EE) (l : Launch) (n : Nat) (lm : Nat) (lb : Nat) (lr : Nat) (nw : Int32) (m : Nat) (M : PM) (wk : va_W) (fz : va_W) (B : PB) (wb : va_W) (a : Nat) (g : PMg) (hM : IsMach E fz m M wk) (hB : BL E fz lb (Prod.fst B) wb) (hg : MsgIn E fz a g) (hn : (List.length (Prod.fst B) ≤ 30)) (hl : (lLast (mL M) ≤ 1000)) (hgn : (gN g ≤ 1000)) (hsu : (mSu M ≤ 1000)) (hbs : (lB (mL M) ≤ mSu M)) (hgl2 : (List.length (gE g) ≤ 2)) (hgs2 : (gS g ≤ 1000)) (hln : (lLast (mL M) ≤ 33)) (hgn3 : (gN g + List.length (gE g) ≤ 33)) (hw5 : (gW g < 5)) : Mt E l yX2_follow cX2_follow 3 none 10 10 232 244 [.ref n, .ref m, .ref a] [[(n, ob 1 [.ref lm, .ref lb, .ref lr, .int (Prod.snd B), .int nw])], wk, wb, fz] (fun (v_ : Option Value) (cs_ : List va_W) => ∃ (fz1 : va_W) (w1 : va_W) (w2 : va_W), Ext E fz fz1 ∧ IsMach E fz1 m (Prod.fst (pFollow M B g)) w1 ∧ BL E fz1 lb (Prod.fst (Prod.snd (pFollow M B g))) w2 ∧ v_ = none ∧ cs_ = [[(n, ob 1 [.ref lm, .ref lb, .ref lr, .int (Prod.snd (Prod.snd (pFollow M B g))), .int nw])], w1, w2, fz1]) := by
  refine Mt.of (by decide) (Nat.le_of_ble_eq_true rfl) (fun X hX hR hin => ?_)
  refine g_lv1 (lv1 := [(0, .ref n), (1, .ref m), (2, .ref a)]) rfl ?_
  obtain ⟨ra1, sp2, ges3, f4, k15, k26, k37, k48, k59, k610⟩ := MsgIn.out hg
  obtain ⟨rn11, rk12, rl13, rs14, rst15, la16, sp17, hpk18, hpl19⟩ := hM.peek
  refine g_aload_n hX (pc := 0) dX2_follow_0 2 rfl ?_
  refine g_getNm hX (pc := 1) fcX13 (sp_in 3 rfl k15) 3 (by decide) q1063 rfl (v := .int (gTm g)) rfl dX2_follow_1 ?_
  refine g_aload_n hX (pc := 4) dX2_follow_4 1 rfl ?_
  refine g_getNm hX (pc := 5) fcX9 (sp_in 1 rfl hpk18) 3 (by decide) q933 rfl (v := .ref rl13) rfl dX2_follow_5 ?_
  refine g_getNm hX (pc := 8) fcX10 (sp_in 1 rfl hpl19) 1 (by decide) q844 rfl (v := .int (lT (mL M))) rfl dX2_follow_8 ?_
  refine g_icmp_ge hX (pc := 11) (tgt := 26) dX2_follow_11 rfl (fun c20 => ?_) (fun c20 => ?_)
  · obtain ⟨rn21, rk22, rl23, rs24, rst25, la26, sp27, hpk28, hpl29⟩ := hM.peek
    refine g_aload_n hX (pc := 26) dX2_follow_26 1 rfl ?_
    refine g_getNm hX (pc := 27) fcX9 (sp_in 1 rfl hpk28) 6 (by decide) q941 rfl (v := .int (mR M)) rfl dX2_follow_27 ?_
    refine g_iconst hX (pc := 30) (v := 2) dX2_follow_30 (by decide) ?_
    refine g_icmp_ne hX (pc := 31) (tgt := 38) dX2_follow_31 rfl (fun c30 => ?_) (fun c30 => ?_)
    · have ht31 : mBack M = M := if_neg c30
      have h32 : IsMach E fz m (mBack M) wk := by rw [ht31]; exact hM
      have hb1 : lLast (mL (mBack M)) = lLast (mL M) ∧ mSu (mBack M) = mSu M ∧ lB (mL (mBack M)) = lB (mL M) := by unfold mBack; split <;> exact ⟨rfl, rfl, rfl⟩
      obtain ⟨ra33, sp34, ges35, f36, k137, k238, k339, k440, k541, k642⟩ := MsgIn.out hg
      refine g_aload_n hX (pc := 38) dX2_follow_38 2 rfl ?_
      refine g_getNm hX (pc := 39) fcX13 (sp_in 3 rfl k137) 0 (by decide) q1056 rfl (v := .ref (aW E (gW g))) rfl dX2_follow_39 ?_
      refine g_gets hX (pc := 42) (v := .ref (aW E 4)) ((cx_gs hX).2.1.1 4 (by decide)).1 q1135 rfl dX2_follow_42 ?_
      refine g_acmp_ner hX (pc := 45) (tgt := 57) dX2_follow_45 rfl (fun c43 => ?_) (fun c43 => ?_)
      · have d4 : ¬ gW g = 4 := mt (aW_inj hX (by omega) (by omega)).mpr c43
        refine g_aload_n hX (pc := 57) dX2_follow_57 0 rfl ?_
        refine g_aload_n hX (pc := 58) dX2_follow_58 1 rfl ?_
        refine g_aload_n hX (pc := 59) dX2_follow_59 2 rfl ?_
        refine g_callV hX (pc := 60) kX2_take (mt_Net_take E l n lm lb lr nw m (mBack M) wk fz B wb a g h32 hB hg (by omega) (by omega) (by omega) (by omega) (by omega) (by omega) (by omega) (by omega) (by omega)) q1246 fcX2 (sp_mem (i := 0) rfl) [0, 0, 0, 0] rfl rfl rfl (Nat.le_of_ble_eq_true rfl) (Nat.le_of_ble_eq_true rfl) (Nat.le_of_ble_eq_true rfl) (by omega) (by omega) dX2_follow_60 (fun v w1 hp => ?_)
        obtain ⟨fz144, w145, w246, h47, h48, h49, rfl, rfl⟩ := hp
        refine g_nrm (cs1 := [[(n, ob 1 [.ref lm, .ref lb, .ref lr, .int (Prod.snd (Prod.snd (pTake (mBack M) B g))), .int nw])], w145, w246, fz144]) (st1 := []) rfl rfl ?_
        have h50 := IsMach.mono h47 h32
        have h51 := BL.mono h47 hB
        have h52 := MsgIn.mono h47 hg
        have h53 := StIn.mono h47 k610
        have h54 := StIn.mono h47 k642
        refine g_vret hX (pc := 63) hR ?_ (by omega) (by omega) dX2_follow_63
        rw [show pFollow M B g = _ from (if_neg (Int32.not_lt.mpr c20)).trans (if_neg d4)]
        exact ⟨_, _, _, h47, h48, h49, rfl, rfl⟩
      · have d4 : gW g = 4 := (aW_inj hX (by omega) (by omega)).mp c43
        refine g_aload_n hX (pc := 48) dX2_follow_48 0 rfl ?_
        refine g_aload_n hX (pc := 49) dX2_follow_49 1 rfl ?_
        refine g_aload_n hX (pc := 50) dX2_follow_50 2 rfl ?_
        refine g_callV hX (pc := 51) kX2_snap (mt_Net_snap E l n lm lb lr nw m (mBack M) wk fz B wb a g h32 hB hg (by omega) (by omega) (by omega) (by omega) (by omega)) q1226 fcX2 (sp_mem (i := 0) rfl) [0, 0, 0, 0] rfl rfl rfl (Nat.le_of_ble_eq_true rfl) (Nat.le_of_ble_eq_true rfl) (Nat.le_of_ble_eq_true rfl) (by omega) (by omega) dX2_follow_51 (fun v w1 hp => ?_)
        obtain ⟨fz155, w156, w257, h58, h59, h60, rfl, rfl⟩ := hp
        refine g_nrm (cs1 := [[(n, ob 1 [.ref lm, .ref lb, .ref lr, .int (Prod.snd (Prod.snd (pSnap (mBack M) B g))), .int nw])], w156, w257, fz155]) (st1 := []) rfl rfl ?_
        have h61 := IsMach.mono h58 h32
        have h62 := BL.mono h58 hB
        have h63 := MsgIn.mono h58 hg
        have h64 := StIn.mono h58 k610
        have h65 := StIn.mono h58 k642
        refine g_goto hX (pc := 54) (tgt := 63) dX2_follow_54 rfl ?_
        refine g_vret hX (pc := 63) hR ?_ (by omega) (by omega) dX2_follow_63
        rw [show pFollow M B g = _ from (if_neg (Int32.not_lt.mpr c20)).trans (if_pos d4)]
        exact ⟨_, _, _, h58, h59, h60, rfl, rfl⟩
    · obtain ⟨rn66, rk67, rl68, rs69, rst70, fn71, fk72, wl73, ws74, wst75, hn76, hL77, hV78, hS79, rfl⟩ := hM
      obtain ⟨la80, sp81, ges82, wl73, hE83, hges84, hsp85, rfl⟩ := hL77
      refine g_fl (cs1 := [[(n, ob 1 [.ref lm, .ref lb, .ref lr, .int (Prod.snd B), .int nw])], [(m, ob 8 [.int (nI (mN M)), .ref rn66, .ref rk67, .ref rl68, .ref rs69, .ref rst70, .int (mR M), .int (mVt M), .int (nI (mSu M)), .int (nI (mDn M)), .int (bI (mLz M))])], [(rn66, iA (aC E 0) 5 fn71)], [(rk67, iA (aC E 0) 5 fk72)], [(rl68, ob 9 [.ref la80, .int (lT (mL M)), .int (lV (mL M)), .int (nI (lB (mL M))), .int (lBT (mL M)), .ref sp81])], wl73, ws74, wst75, wb, fz]) (by simp only [List.flatten_cons, List.flatten_nil, List.cons_append, List.append_assoc, List.nil_append, List.append_nil]) ?_
      have hl_ges82 : List.length ges82 = List.length (lE (mL M)) := by rw [← hges84, List.length_map]
      refine g_aload_n hX (pc := 34) dX2_follow_34 1 rfl ?_
      refine g_callV hX (pc := 35) kX9_follow (mt_Machine_follow E l m (nI (mN M)) rn66 rk67 rl68 rs69 rst70 (mR M) (mVt M) (nI (mSu M)) (nI (mDn M)) (bI (mLz M))) q1225 fcX9 (sp_mem (i := 1) rfl) [1] rfl rfl rfl (Nat.le_of_ble_eq_true rfl) (Nat.le_of_ble_eq_true rfl) (Nat.le_of_ble_eq_true rfl) (by omega) (by omega) dX2_follow_35 (fun v w1 hp => ?_)
      obtain ⟨rfl, rfl⟩ := hp
      refine g_nrm (cs1 := [[(m, ob 8 [.int (nI (mN M)), .ref rn66, .ref rk67, .ref rl68, .ref rs69, .ref rst70, .int 1, .int 0, .int (nI (mSu M)), .int (nI (mDn M)), .int (bI (mLz M))])], [(n, ob 1 [.ref lm, .ref lb, .ref lr, .int (Prod.snd B), .int nw])], [(rn66, iA (aC E 0) 5 fn71)], [(rk67, iA (aC E 0) 5 fk72)], [(rl68, ob 9 [.ref la80, .int (lT (mL M)), .int (lV (mL M)), .int (nI (lB (mL M))), .int (lBT (mL M)), .ref sp81])], wl73, ws74, wst75, wb, fz]) (st1 := []) rfl rfl ?_
      refine g_pk [0, 1, 1, 1, 1, 1, 1] rfl ?_
      refine g_cs (cs1 := [[(m, ob 8 [.int (nI (mN M)), .ref rn66, .ref rk67, .ref rl68, .ref rs69, .ref rst70, .int 1, .int 0, .int (nI (mSu M)), .int (nI (mDn M)), .int (bI (mLz M))])], [(rn66, iA (aC E 0) 5 fn71)], [(rk67, iA (aC E 0) 5 fk72)], [(rl68, ob 9 [.ref la80, .int (lT (mL M)), .int (lV (mL M)), .int (nI (lB (mL M))), .int (lBT (mL M)), .ref sp81])], wl73, ws74, wst75, [(n, ob 1 [.ref lm, .ref lb, .ref lr, .int (Prod.snd B), .int nw])], wb, fz]) rfl ?_
      refine g_fl (cs1 := [((m, ob 8 [.int (nI (mN M)), .ref rn66, .ref rk67, .ref rl68, .ref rs69, .ref rst70, .int 1, .int 0, .int (nI (mSu M)), .int (nI (mDn M)), .int (bI (mLz M))]) :: (rn66, iA (aC E 0) 5 fn71) :: (rk67, iA (aC E 0) 5 fk72) :: (((rl68, ob 9 [.ref la80, .int (lT (mL M)), .int (lV (mL M)), .int (nI (lB (mL M))), .int (lBT (mL M)), .ref sp81]) :: wl73) ++ (ws74 ++ wst75))), [(n, ob 1 [.ref lm, .ref lb, .ref lr, .int (Prod.snd B), .int nw])], wb, fz]) (by simp only [List.flatten_cons, List.flatten_nil, List.cons_append, List.append_assoc, List.nil_append, List.append_nil]) ?_
      have hM86 : IsMach E fz m (mFollow M) ((m, ob 8 [.int (nI (mN M)), .ref rn66, .ref rk67, .ref rl68, .ref rs69, .ref rst70, .int 1, .int 0, .int (nI (mSu M)), .int (nI (mDn M)), .int (bI (mLz M))]) :: (rn66, iA (aC E 0) 5 fn71) :: (rk67, iA (aC E 0) 5 fk72) :: (((rl68, ob 9 [.ref la80, .int (lT (mL M)), .int (lV (mL M)), .int (nI (lB (mL M))), .int (lBT (mL M)), .ref sp81]) :: wl73) ++ (ws74 ++ wst75))) := ⟨_, _, _, _, _, _, _, _, _, _, hn76, ⟨_, _, _, _, hE83, hges84, hsp85, rfl⟩, hV78, hS79, rfl⟩
      generalize ((m, ob 8 [.int (nI (mN M)), .ref rn66, .ref rk67, .ref rl68, .ref rs69, .ref rst70, .int 1, .int 0, .int (nI (mSu M)), .int (nI (mDn M)), .int (bI (mLz M))]) :: (rn66, iA (aC E 0) 5 fn71) :: (rk67, iA (aC E 0) 5 fk72) :: (((rl68, ob 9 [.ref la80, .int (lT (mL M)), .int (lV (mL M)), .int (nI (lB (mL M))), .int (lBT (mL M)), .ref sp81]) :: wl73) ++ (ws74 ++ wst75))) = wk87 at hM86 ⊢
      have ht88 : mBack M = mFollow M := if_pos c30
      have h89 : IsMach E fz m (mBack M) wk87 := by rw [ht88]; exact hM86
      have hb1 : lLast (mL (mBack M)) = lLast (mL M) ∧ mSu (mBack M) = mSu M ∧ lB (mL (mBack M)) = lB (mL M) := by unfold mBack; split <;> exact ⟨rfl, rfl, rfl⟩
      obtain ⟨ra90, sp91, ges92, f93, k194, k295, k396, k497, k598, k699⟩ := MsgIn.out hg
      refine g_aload_n hX (pc := 38) dX2_follow_38 2 rfl ?_
      refine g_getNm hX (pc := 39) fcX13 (sp_in 3 rfl k194) 0 (by decide) q1056 rfl (v := .ref (aW E (gW g))) rfl dX2_follow_39 ?_
      refine g_gets hX (pc := 42) (v := .ref (aW E 4)) ((cx_gs hX).2.1.1 4 (by decide)).1 q1135 rfl dX2_follow_42 ?_
      refine g_acmp_ner hX (pc := 45) (tgt := 57) dX2_follow_45 rfl (fun c100 => ?_) (fun c100 => ?_)
      · have d4 : ¬ gW g = 4 := mt (aW_inj hX (by omega) (by omega)).mpr c100
        refine g_aload_n hX (pc := 57) dX2_follow_57 0 rfl ?_
        refine g_aload_n hX (pc := 58) dX2_follow_58 1 rfl ?_
        refine g_aload_n hX (pc := 59) dX2_follow_59 2 rfl ?_
        refine g_callV hX (pc := 60) kX2_take (mt_Net_take E l n lm lb lr nw m (mBack M) wk87 fz B wb a g h89 hB hg (by omega) (by omega) (by omega) (by omega) (by omega) (by omega) (by omega) (by omega) (by omega)) q1246 fcX2 (sp_mem (i := 1) rfl) [1, 0, 0, 0] rfl rfl rfl (Nat.le_of_ble_eq_true rfl) (Nat.le_of_ble_eq_true rfl) (Nat.le_of_ble_eq_true rfl) (by omega) (by omega) dX2_follow_60 (fun v w1 hp => ?_)
        obtain ⟨fz1101, w1102, w2103, h104, h105, h106, rfl, rfl⟩ := hp
        refine g_nrm (cs1 := [[(n, ob 1 [.ref lm, .ref lb, .ref lr, .int (Prod.snd (Prod.snd (pTake (mBack M) B g))), .int nw])], w1102, w2103, fz1101]) (st1 := []) rfl rfl ?_
        have h107 := BL.mono h104 hB
        have h108 := MsgIn.mono h104 hg
        have h109 := StIn.mono h104 k610
        have h110 := StIn.mono h104 hsp85
        have h111 := IsMach.mono h104 h89
        have h112 := StIn.mono h104 k699
        refine g_vret hX (pc := 63) hR ?_ (by omega) (by omega) dX2_follow_63
        rw [show pFollow M B g = _ from (if_neg (Int32.not_lt.mpr c20)).trans (if_neg d4)]
        exact ⟨_, _, _, h104, h105, h106, rfl, rfl⟩
      · have d4 : gW g = 4 := (aW_inj hX (by omega) (by omega)).mp c100
        refine g_aload_n hX (pc := 48) dX2_follow_48 0 rfl ?_
        refine g_aload_n hX (pc := 49) dX2_follow_49 1 rfl ?_
        refine g_aload_n hX (pc := 50) dX2_follow_50 2 rfl ?_
        refine g_callV hX (pc := 51) kX2_snap (mt_Net_snap E l n lm lb lr nw m (mBack M) wk87 fz B wb a g h89 hB hg (by omega) (by omega) (by omega) (by omega) (by omega)) q1226 fcX2 (sp_mem (i := 1) rfl) [1, 0, 0, 0] rfl rfl rfl (Nat.le_of_ble_eq_true rfl) (Nat.le_of_ble_eq_true rfl) (Nat.le_of_ble_eq_true rfl) (by omega) (by omega) dX2_follow_51 (fun v w1 hp => ?_)
        obtain ⟨fz1113, w1114, w2115, h116, h117, h118, rfl, rfl⟩ := hp
        refine g_nrm (cs1 := [[(n, ob 1 [.ref lm, .ref lb, .ref lr, .int (Prod.snd (Prod.snd (pSnap (mBack M) B g))), .int nw])], w1114, w2115, fz1113]) (st1 := []) rfl rfl ?_
        have h119 := BL.mono h116 hB
        have h120 := MsgIn.mono h116 hg
        have h121 := StIn.mono h116 k610
        have h122 := StIn.mono h116 hsp85
        have h123 := IsMach.mono h116 h89
        have h124 := StIn.mono h116 k699
        refine g_goto hX (pc := 54) (tgt := 63) dX2_follow_54 rfl ?_
        refine g_vret hX (pc := 63) hR ?_ (by omega) (by omega) dX2_follow_63
        rw [show pFollow M B g = _ from (if_neg (Int32.not_lt.mpr c20)).trans (if_pos d4)]
        exact ⟨_, _, _, h116, h117, h118, rfl, rfl⟩
  · refine g_aload_n hX (pc := 14) dX2_follow_14 0 rfl ?_
    refine g_aload_n hX (pc := 15) dX2_follow_15 1 rfl ?_
    refine g_aload_n hX (pc := 16) dX2_follow_16 2 rfl ?_
    refine g_gets hX (pc := 17) (v := .ref (aW E 3)) ((cx_gs hX).2.1.1 3 (by decide)).1 q1223 rfl dX2_follow_17 ?_
    refine g_iconst hX (pc := 20) (v := 0) dX2_follow_20 (by decide) ?_
    refine g_eqi (bI false) (rfl) ?_
    refine g_iconst hX (pc := 21) (v := 0) dX2_follow_21 (by decide) ?_
    refine g_eqi (nI 0) (nI_0.symm) ?_
    refine g_callV hX (pc := 22) kX2_answer (mt_Net_answer E l n lm lb lr nw m M wk fz B wb a g 3 false 0 hM hB hg (by omega)) q1211 fcX2 (sp_mem (i := 0) rfl) [0, 0, 0, 0] rfl rfl rfl (Nat.le_of_ble_eq_true rfl) (Nat.le_of_ble_eq_true rfl) (Nat.le_of_ble_eq_true rfl) (by omega) (by omega) dX2_follow_22 (fun v w1 hp => ?_)
    obtain ⟨fz1125, w1126, w2127, h128, h129, h130, rfl, rfl⟩ := hp
    refine g_nrm (cs1 := [[(n, ob 1 [.ref lm, .ref lb, .ref lr, .int (Prod.snd (bSend B (mkA 3 M (gF g) false 0))), .int nw])], w1126, w2127, fz1125]) (st1 := []) rfl rfl ?_
    have h131 := IsMach.mono h128 hM
    have h132 := BL.mono h128 hB
    have h133 := MsgIn.mono h128 hg
    have h134 := StIn.mono h128 k610
    refine g_vret hX (pc := 25) hR ?_ (by omega) (by omega) dX2_follow_25
    rw [show pFollow M B g = _ from if_pos (Int32.not_le.mp c20)]
    exact ⟨_, _, _, h128, h129, h130, rfl, rfl⟩
