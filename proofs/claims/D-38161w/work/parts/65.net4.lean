set_option maxHeartbeats 4000000 in
theorem mt_Net_give (E : EE) (l : Launch) (n : Nat) (lm : Nat) (lb : Nat) (lr : Nat) (lo : Int32) (nw : Int32) (mas : List Nat) (wm : va_W) (m : Nat) (M : PM) (wk : va_W) (fz : va_W) (R : List PR) (wr : va_W) (wq : va_W) (b : Nat) (j : Nat) (r : PR) (hA : AL E lm mas wm) (hM : IsMach E fz m M wk) (hRq : RL E lr R wr wq) (hok : (mOK (List.length mas) (List.length R) b M)) (hrq : (rqOK R)) (hb : (b ≤ 32)) (hj : (R[j]? = some r)) : Mt E l yX2_give cX2_give 4 (some .int) 10 8 221 237 [.ref n, .int (nI j), .ref m] [[(n, ob 1 [.ref lm, .ref lb, .ref lr, .int lo, .int nw])], wm, wk, wr, wq, fz] (fun (v_ : Option Value) (cs_ : List va_W) => ∃ (fz1 : va_W) (w1 : va_W) (w2 : va_W), Ext E fz fz1 ∧ IsMach E fz1 m (Prod.fst (Prod.fst (pGive (List.length mas) nw M R j))) w1 ∧ RL E lr (Prod.snd (Prod.fst (pGive (List.length mas) nw M R j))) wr w2 ∧ v_ = some (.int (Prod.snd (pGive (List.length mas) nw M R j))) ∧ cs_ = [[(n, ob 1 [.ref lm, .ref lb, .ref lr, .int lo, .int nw])], wm, w1, wr, w2, fz1]) := by
  obtain ⟨ras, a, rpre, rpost, hAr, hrl, hra, rfl, hRc⟩ := rl_focus hRq hj
  have hok1 := hok
  have hjl : j < List.length R := (List.getElem?_eq_some_iff.mp hj).1
  have hrb : (rBeg R j nw).length = List.length R := by unfold rBeg; rw [List.length_set]
  have hrq2 : rqOK (rBeg R j nw) := by rw [rBeg_e nw hj]; exact rqOK_set hrq hj rfl
  obtain ⟨⟨o1, o2⟩, ⟨o3, o4⟩, ⟨o5, o6, o7, o8⟩, ⟨o9, o10⟩, o11, o12⟩ := hok
  have hll : lLast (mL M) = lB (mL M) + (lE (mL M)).length := rfl
  have hrl := hrq.1
  refine Mt.of (by decide) (Nat.le_of_ble_eq_true rfl) (fun X hX hR hin => ?_)
  refine g_lv1 (lv1 := [(0, .ref n), (1, .int (nI j)), (2, .ref m)]) rfl ?_
  refine g_fl (cs1 := [[(n, ob 1 [.ref lm, .ref lb, .ref lr, .int lo, .int nw])], wm, wk, wr, rpre, [(a, ob 10 [.int (nI (rC r)), .ref (aK E (rK r)), .int (nI (rY r)), .int (rA r), .int (rB r), .int (rRes r), .int (rSent r), .int (rAns r), .int (rTimes r)])], rpost, fz]) (by simp only [List.flatten_cons, List.flatten_nil, List.cons_append, List.append_assoc, List.nil_append, List.append_nil]) ?_
  refine g_aload_n hX (pc := 0) dX2_give_0 0 rfl ?_
  refine g_get hX (pc := 1) fcX2 0 rfl 2 (by decide) q159 rfl (v := .ref lr) rfl dX2_give_1 ?_
  refine g_iload_n hX (pc := 4) dX2_give_4 1 rfl ?_
  obtain ⟨fs1, hm2⟩ := AL.head hAr
  refine g_callF hX (pc := 5) kfJ2_get (mt_AL_get E l lr ras wr j a hAr (hra)) q203 fcJ2 (sp_in 3 rfl hm2) [3] rfl rfl rfl (Nat.le_of_ble_eq_true rfl) (Nat.le_of_ble_eq_true rfl) (Nat.le_of_ble_eq_true rfl) (by omega) (by omega) dX2_give_5 (fun v w1 hp => ?_)
  obtain ⟨rfl, rfl⟩ := hp
  refine g_nrm (cs1 := [wr, [(n, ob 1 [.ref lm, .ref lb, .ref lr, .int lo, .int nw])], wm, wk, rpre, [(a, ob 10 [.int (nI (rC r)), .ref (aK E (rK r)), .int (nI (rY r)), .int (rA r), .int (rB r), .int (rRes r), .int (rSent r), .int (rAns r), .int (rTimes r)])], rpost, fz]) (st1 := [.ref a]) rfl rfl ?_
  refine g_cast hX (pc := 10) fcX12 (sp_mem (i := 5) rfl) q726 dX2_give_10 ?_
  refine g_aload_n hX (pc := 13) dX2_give_13 0 rfl ?_
  refine g_get hX (pc := 14) fcX2 1 rfl 4 (by decide) q163 rfl (v := .int nw) rfl dX2_give_14 ?_
  refine g_callV hX (pc := 17) kX12_begin (mt_Request_begin E l a (nI (rC r)) (rK r) (nI (rY r)) (rA r) (rB r) (rRes r) (rSent r) (rAns r) (rTimes r) nw) q1445 fcX12 (sp_mem (i := 5) rfl) [5] rfl rfl rfl (Nat.le_of_ble_eq_true rfl) (Nat.le_of_ble_eq_true rfl) (Nat.le_of_ble_eq_true rfl) (by omega) (by omega) dX2_give_17 (fun v w1 hp => ?_)
  obtain ⟨rfl, rfl⟩ := hp
  refine g_nrm (cs1 := [[(a, ob 10 [.int (nI (rC r)), .ref (aK E (rK r)), .int (nI (rY r)), .int (rA r), .int (rB r), .int (rRes r), .int (if (rSent r) = (-1) then nw else (rSent r)), .int (rAns r), .int ((rTimes r) + 1)])], wr, [(n, ob 1 [.ref lm, .ref lb, .ref lr, .int lo, .int nw])], wm, wk, rpre, rpost, fz]) (st1 := []) rfl rfl ?_
  refine g_pk [5, 0, 4] rfl ?_
  refine g_cs (cs1 := [rpre, [(a, ob 10 [.int (nI (rC r)), .ref (aK E (rK r)), .int (nI (rY r)), .int (rA r), .int (rB r), .int (rRes r), .int (if (rSent r) = (-1) then nw else (rSent r)), .int (rAns r), .int ((rTimes r) + 1)])], rpost, wr, [(n, ob 1 [.ref lm, .ref lb, .ref lr, .int lo, .int nw])], wm, wk, fz]) rfl ?_
  refine g_fl (cs1 := [(rpre ++ ([(a, ob 10 [.int (nI (rC r)), .ref (aK E (rK r)), .int (nI (rY r)), .int (rA r), .int (rB r), .int (rRes r), .int (if (rSent r) = (-1) then nw else (rSent r)), .int (rAns r), .int ((rTimes r) + 1)])] ++ rpost)), wr, [(n, ob 1 [.ref lm, .ref lb, .ref lr, .int lo, .int nw])], wm, wk, fz]) (by simp only [List.flatten_cons, List.flatten_nil, List.cons_append, List.append_assoc, List.nil_append, List.append_nil]) ?_
  have hRL3 : RL E lr (List.set R j (rBegin r nw)) wr (rpre ++ ([(a, ob 10 [.int (nI (rC r)), .ref (aK E (rK r)), .int (nI (rY r)), .int (rA r), .int (rB r), .int (rRes r), .int (if (rSent r) = (-1) then nw else (rSent r)), .int (rAns r), .int ((rTimes r) + 1)])] ++ rpost)) := hRc (rBegin r nw)
  generalize (rpre ++ ([(a, ob 10 [.int (nI (rC r)), .ref (aK E (rK r)), .int (nI (rY r)), .int (rA r), .int (rB r), .int (rRes r), .int (if (rSent r) = (-1) then nw else (rSent r)), .int (rAns r), .int ((rTimes r) + 1)])] ++ rpost)) = wq4 at hRL3 ⊢
  have ht5 : rBeg R j nw = List.set R j (rBegin r nw) := rBeg_e nw hj
  have h6 : RL E lr (rBeg R j nw) wr wq4 := by rw [ht5]; exact hRL3
  refine g_aload_n hX (pc := 20) dX2_give_20 2 rfl ?_
  obtain ⟨fs7, hm8⟩ := IsMach.head hM
  refine g_callV hX (pc := 21) kX9_isLeader (mt_Machine_isLeaderM E l m M wk fz hM) q225 fcX9 (sp_in 4 rfl hm8) [4] rfl rfl rfl (Nat.le_of_ble_eq_true rfl) (Nat.le_of_ble_eq_true rfl) (Nat.le_of_ble_eq_true rfl) (by omega) (by omega) dX2_give_21 (fun v w1 hp => ?_)
  obtain ⟨rfl, rfl⟩ := hp
  refine g_nrm (cs1 := [wk, wq4, wr, [(n, ob 1 [.ref lm, .ref lb, .ref lr, .int lo, .int nw])], wm, fz]) (st1 := [.int (if mR M = 3 then 1 else 0)]) rfl rfl ?_
  refine g_if_eq hX (pc := 24) (tgt := 44) dX2_give_24 rfl (fun c9_ => ?_) (fun c9_ => ?_)
  · have c9 := z10.mp c9_
    refine g_iconst hX (pc := 44) (v := (-1)) dX2_give_44 (by decide) ?_
    refine g_pk [3, 3, 0, 1, 0, 0] rfl ?_
    refine g_cs (cs1 := [[(n, ob 1 [.ref lm, .ref lb, .ref lr, .int lo, .int nw])], wm, wk, wr, wq4, fz]) rfl ?_
    refine g_iret hX (pc := 45) hR ?_ (by omega) (by omega) dX2_give_45
    rw [show (pGive (List.length mas) nw M R j) = (en3 M (rBeg R j nw), (-1)) from if_neg (fun z => c9 z.1)]
    exact ⟨_, _, _, Ext.rfl', hM, h6, rfl, rfl⟩
  · have c9 := z10n.mp c9_
    obtain ⟨rn10, rk11, rl12, rs13, rst14, fn15, fk16, wl17, ws18, wst19, hn20, hL21, hV22, hS23, rfl⟩ := hM
    obtain ⟨la24, sp25, ges26, wl17, hE27, hges28, hsp29, rfl⟩ := hL21
    refine g_fl (cs1 := [[(m, ob 8 [.int (nI (mN M)), .ref rn10, .ref rk11, .ref rl12, .ref rs13, .ref rst14, .int (mR M), .int (mVt M), .int (nI (mSu M)), .int (nI (mDn M)), .int (bI (mLz M))])], [(rn10, iA (aC E 0) 5 fn15)], [(rk11, iA (aC E 0) 5 fk16)], [(rl12, ob 9 [.ref la24, .int (lT (mL M)), .int (lV (mL M)), .int (nI (lB (mL M))), .int (lBT (mL M)), .ref sp25])], wl17, ws18, wst19, wq4, wr, [(n, ob 1 [.ref lm, .ref lb, .ref lr, .int lo, .int nw])], wm, fz]) (by simp only [List.flatten_cons, List.flatten_nil, List.cons_append, List.append_assoc, List.nil_append, List.append_nil]) ?_
    have hl_ges26 : List.length ges26 = List.length (lE (mL M)) := by rw [← hges28, List.length_map]
    refine g_aload_n hX (pc := 27) dX2_give_27 2 rfl ?_
    refine g_getN hX (pc := 28) fcX9 0 rfl 3 (by decide) q933 rfl (v := .ref rl12) rfl dX2_give_28 ?_
    refine g_getN hX (pc := 31) fcX10 3 rfl 0 (by decide) q840 rfl (v := .ref la24) rfl dX2_give_31 ?_
    obtain ⟨fs30, hm31⟩ := AL.head hE27.1
    refine g_callF hX (pc := 34) kfJ2_size (mt_AL_size E l la24 (List.map Prod.fst ges26) wl17 hE27.1) q189 fcJ2 (sp_in 4 rfl hm31) [4] rfl rfl rfl (Nat.le_of_ble_eq_true rfl) (Nat.le_of_ble_eq_true rfl) (Nat.le_of_ble_eq_true rfl) (by omega) (by omega) dX2_give_34 (fun v w1 hp => ?_)
    obtain ⟨rfl, rfl⟩ := hp
    refine g_nrm (cs1 := [wl17, [(m, ob 8 [.int (nI (mN M)), .ref rn10, .ref rk11, .ref rl12, .ref rs13, .ref rst14, .int (mR M), .int (mVt M), .int (nI (mSu M)), .int (nI (mDn M)), .int (bI (mLz M))])], [(rn10, iA (aC E 0) 5 fn15)], [(rk11, iA (aC E 0) 5 fk16)], [(rl12, ob 9 [.ref la24, .int (lT (mL M)), .int (lV (mL M)), .int (nI (lB (mL M))), .int (lBT (mL M)), .ref sp25])], ws18, wst19, wq4, wr, [(n, ob 1 [.ref lm, .ref lb, .ref lr, .int lo, .int nw])], wm, fz]) (st1 := [.int (nI (List.length (List.map Prod.fst ges26)))]) rfl rfl ?_
    refine g_eqi (nI (List.length (lE (mL M)))) (by rw [List.length_map, hl_ges26]) ?_
    refine g_bipush hX (pc := 39) (v := 30) dX2_give_39 (by decide) ?_
    refine g_icmp_lt hX (pc := 41) (tgt := 46) dX2_give_41 rfl (fun c32 => ?_) (fun c32 => ?_)
    · have d9 : (lE (mL M)).length < 30 := by
        have h1 := c32
        rw [show (30 : Int32) = nI 30 from rfl] at h1
        exact (nI_ltI (by omega) (by omega)).mp h1
      have hgv : (pGive (List.length mas) nw M R j) = (settle (List.length mas) nw (mGive M j) (rBeg R j nw), nI (lLast (mL M) + 1)) := if_pos ⟨c9, d9⟩
      refine g_aload_n hX (pc := 46) dX2_give_46 2 rfl ?_
      refine g_getN hX (pc := 47) fcX9 1 rfl 3 (by decide) q933 rfl (v := .ref rl12) rfl dX2_give_47 ?_
      refine g_getN hX (pc := 50) fcX10 4 rfl 0 (by decide) q840 rfl (v := .ref la24) rfl dX2_give_50 ?_
      refine g_new hX (pc := 53) fcX14 q1110 q1111 q101 (fs := [.int 0, .int 0]) (fun j hj => by match j, hj with | 0, _ => rfl | 1, _ => rfl | j + 2, h => exact absurd h (by omega)) (by omega) (by omega) dX2_give_53 (fun q33 => ?_)
      refine g_dup hX (pc := 56) dX2_give_56 rfl ?_
      refine g_aload_n hX (pc := 57) dX2_give_57 2 rfl ?_
      refine g_getN hX (pc := 58) fcX9 2 rfl 3 (by decide) q933 rfl (v := .ref rl12) rfl dX2_give_58 ?_
      refine g_getN hX (pc := 61) fcX10 5 rfl 1 (by decide) q844 rfl (v := .int (lT (mL M))) rfl dX2_give_61 ?_
      refine g_iload_n hX (pc := 64) dX2_give_64 1 rfl ?_
      refine g_callI hX (pc := 65) kX14_init (mt_Entry_init E l q33 (lT (mL M)) (nI j)) q1112 [0] rfl rfl rfl (Nat.le_of_ble_eq_true rfl) (Nat.le_of_ble_eq_true rfl) (Nat.le_of_ble_eq_true rfl) (by omega) (by omega) dX2_give_65 (fun v w1 hp => ?_)
      obtain ⟨rfl, rfl⟩ := hp
      refine g_nrm (cs1 := [[(q33, ob 12 [.int (lT (mL M)), .int (nI j)])], wl17, [(m, ob 8 [.int (nI (mN M)), .ref rn10, .ref rk11, .ref rl12, .ref rs13, .ref rst14, .int (mR M), .int (mVt M), .int (nI (mSu M)), .int (nI (mDn M)), .int (bI (mLz M))])], [(rn10, iA (aC E 0) 5 fn15)], [(rk11, iA (aC E 0) 5 fk16)], [(rl12, ob 9 [.ref la24, .int (lT (mL M)), .int (lV (mL M)), .int (nI (lB (mL M))), .int (lBT (mL M)), .ref sp25])], ws18, wst19, wq4, wr, [(n, ob 1 [.ref lm, .ref lb, .ref lr, .int lo, .int nw])], wm, fz]) (st1 := [.ref q33, .ref la24]) rfl rfl ?_
      refine g_pk [0, 11] rfl ?_
      refine g_cs (cs1 := [[(q33, ob 12 [.int (lT (mL M)), .int (nI j)])], fz, wl17, [(m, ob 8 [.int (nI (mN M)), .ref rn10, .ref rk11, .ref rl12, .ref rs13, .ref rst14, .int (mR M), .int (mVt M), .int (nI (mSu M)), .int (nI (mDn M)), .int (bI (mLz M))])], [(rn10, iA (aC E 0) 5 fn15)], [(rk11, iA (aC E 0) 5 fk16)], [(rl12, ob 9 [.ref la24, .int (lT (mL M)), .int (lV (mL M)), .int (nI (lB (mL M))), .int (lBT (mL M)), .ref sp25])], ws18, wst19, wq4, wr, [(n, ob 1 [.ref lm, .ref lb, .ref lr, .int lo, .int nw])], wm]) rfl ?_
      refine g_fl (cs1 := [((q33, ob 12 [.int (lT (mL M)), .int (nI j)]) :: (fz)), wl17, [(m, ob 8 [.int (nI (mN M)), .ref rn10, .ref rk11, .ref rl12, .ref rs13, .ref rst14, .int (mR M), .int (mVt M), .int (nI (mSu M)), .int (nI (mDn M)), .int (bI (mLz M))])], [(rn10, iA (aC E 0) 5 fn15)], [(rk11, iA (aC E 0) 5 fk16)], [(rl12, ob 9 [.ref la24, .int (lT (mL M)), .int (lV (mL M)), .int (nI (lB (mL M))), .int (lBT (mL M)), .ref sp25])], ws18, wst19, wq4, wr, [(n, ob 1 [.ref lm, .ref lb, .ref lr, .int lo, .int nw])], wm]) (by simp only [List.flatten_cons, List.flatten_nil, List.cons_append, List.append_assoc, List.nil_append, List.append_nil]) ?_
      have hx35 : Ext E fz ((q33, ob 12 [.int (lT (mL M)), .int (nI j)]) :: (fz)) := fun q hq => (List.mem_cons_of_mem _ hq)
      have hm36 : (q33, ob 12 [.int (lT (mL M)), .int (nI j)]) ∈ ((q33, ob 12 [.int (lT (mL M)), .int (nI j)]) :: (fz)) := (List.mem_cons_self)
      generalize ((q33, ob 12 [.int (lT (mL M)), .int (nI j)]) :: (fz)) = fz34 at hx35 hm36 ⊢
      have h37 := EL.mono hx35 hE27
      have h38 := StIn.mono hx35 hsp29
      have h39 := IsLog.mono hx35 hV22
      have hxe : okE E fz34 q33 := Or.inl ⟨12, _, hm36, by omega⟩
      have hxl : (List.map Prod.fst ges26).length ≤ 60 := by rw [List.length_map]; omega
      refine g_callF hX (pc := 68) kfJ2_add_2 (mt_AL_add E l la24 (List.map Prod.fst ges26) wl17 q33 fz34 60 hE27.1 (hxl) (by omega) (hxe) (en_ok h37.2)) q976 fcJ2 (sp_in 1 rfl hm31) [1, 0] rfl rfl rfl (Nat.le_of_ble_eq_true rfl) (Nat.le_of_ble_eq_true rfl) (Nat.le_of_ble_eq_true rfl) (by omega) (by omega) dX2_give_68 (fun v w1 hp => ?_)
      obtain ⟨w140, h41, rfl, rfl⟩ := hp
      refine g_nrm (cs1 := [w140, fz34, [(m, ob 8 [.int (nI (mN M)), .ref rn10, .ref rk11, .ref rl12, .ref rs13, .ref rst14, .int (mR M), .int (mVt M), .int (nI (mSu M)), .int (nI (mDn M)), .int (bI (mLz M))])], [(rn10, iA (aC E 0) 5 fn15)], [(rk11, iA (aC E 0) 5 fk16)], [(rl12, ob 9 [.ref la24, .int (lT (mL M)), .int (lV (mL M)), .int (nI (lB (mL M))), .int (lBT (mL M)), .ref sp25])], ws18, wst19, wq4, wr, [(n, ob 1 [.ref lm, .ref lb, .ref lr, .int lo, .int nw])], wm]) (st1 := [.int 1]) rfl rfl ?_
      have hE42 : EL E fz34 la24 (ges26 ++ [en2 q33 (lT (mL M)) (nI j)]) w140 := el_add h37 hm36 h41
      have hla43 : List.length (ges26 ++ [en2 q33 (lT (mL M)) (nI j)]) = List.length (lE (mL M)) + 1 := by rw [List.length_append, List.length_singleton, hl_ges26]
      refine g_pop hX (pc := 73) dX2_give_73 rfl ?_
      refine g_aload_n hX (pc := 74) dX2_give_74 2 rfl ?_
      refine g_getN hX (pc := 75) fcX9 2 rfl 3 (by decide) q933 rfl (v := .ref rl12) rfl dX2_give_75 ?_
      refine g_callV hX (pc := 78) kX10_last (mt_Log_last E l rl12 la24 (lT (mL M)) (lV (mL M)) (lB (mL M)) (lBT (mL M)) sp25 fz34 (ges26 ++ [en2 q33 (lT (mL M)) (nI j)]) w140 hE42) q235 fcX10 (sp_mem (i := 5) rfl) [5, 0] rfl rfl rfl (Nat.le_of_ble_eq_true rfl) (Nat.le_of_ble_eq_true rfl) (Nat.le_of_ble_eq_true rfl) (by omega) (by omega) dX2_give_78 (fun v w1 hp => ?_)
      obtain ⟨rfl, rfl⟩ := hp
      refine g_nrm (cs1 := [[(rl12, ob 9 [.ref la24, .int (lT (mL M)), .int (lV (mL M)), .int (nI (lB (mL M))), .int (lBT (mL M)), .ref sp25])], w140, fz34, [(m, ob 8 [.int (nI (mN M)), .ref rn10, .ref rk11, .ref rl12, .ref rs13, .ref rst14, .int (mR M), .int (mVt M), .int (nI (mSu M)), .int (nI (mDn M)), .int (bI (mLz M))])], [(rn10, iA (aC E 0) 5 fn15)], [(rk11, iA (aC E 0) 5 fk16)], ws18, wst19, wq4, wr, [(n, ob 1 [.ref lm, .ref lb, .ref lr, .int lo, .int nw])], wm]) (st1 := [.int (nI ((lB (mL M)) + List.length (ges26 ++ [en2 q33 (lT (mL M)) (nI j)])))]) rfl rfl ?_
      refine g_eqi (nI (lLast (mL M) + 1)) (by rw [hla43]; rfl) ?_
      refine g_istore_n hX (pc := 81) (lv1 := [(3, .int (nI (lLast (mL M) + 1))), (0, .ref n), (1, .int (nI j)), (2, .ref m)]) dX2_give_81 (by decide) rfl ?_
      refine g_pk [3, 3, 3, 0, 0, 1, 1] rfl ?_
      refine g_cs (cs1 := [[(m, ob 8 [.int (nI (mN M)), .ref rn10, .ref rk11, .ref rl12, .ref rs13, .ref rst14, .int (mR M), .int (mVt M), .int (nI (mSu M)), .int (nI (mDn M)), .int (bI (mLz M))])], [(rn10, iA (aC E 0) 5 fn15)], [(rk11, iA (aC E 0) 5 fk16)], [(rl12, ob 9 [.ref la24, .int (lT (mL M)), .int (lV (mL M)), .int (nI (lB (mL M))), .int (lBT (mL M)), .ref sp25])], w140, ws18, wst19, fz34, wq4, wr, [(n, ob 1 [.ref lm, .ref lb, .ref lr, .int lo, .int nw])], wm]) rfl ?_
      refine g_fl (cs1 := [((m, ob 8 [.int (nI (mN M)), .ref rn10, .ref rk11, .ref rl12, .ref rs13, .ref rst14, .int (mR M), .int (mVt M), .int (nI (mSu M)), .int (nI (mDn M)), .int (bI (mLz M))]) :: (rn10, iA (aC E 0) 5 fn15) :: (rk11, iA (aC E 0) 5 fk16) :: (((rl12, ob 9 [.ref la24, .int (lT (mL M)), .int (lV (mL M)), .int (nI (lB (mL M))), .int (lBT (mL M)), .ref sp25]) :: w140) ++ (ws18 ++ wst19))), fz34, wq4, wr, [(n, ob 1 [.ref lm, .ref lb, .ref lr, .int lo, .int nw])], wm]) (by simp only [List.flatten_cons, List.flatten_nil, List.cons_append, List.append_assoc, List.nil_append, List.append_nil]) ?_
      have hM44 : IsMach E fz34 m (mGive M j) ((m, ob 8 [.int (nI (mN M)), .ref rn10, .ref rk11, .ref rl12, .ref rs13, .ref rst14, .int (mR M), .int (mVt M), .int (nI (mSu M)), .int (nI (mDn M)), .int (bI (mLz M))]) :: (rn10, iA (aC E 0) 5 fn15) :: (rk11, iA (aC E 0) 5 fk16) :: (((rl12, ob 9 [.ref la24, .int (lT (mL M)), .int (lV (mL M)), .int (nI (lB (mL M))), .int (lBT (mL M)), .ref sp25]) :: w140) ++ (ws18 ++ wst19))) := ⟨_, _, _, _, _, _, _, _, _, _, hn20, ⟨_, _, _, _, hE42, (by rw [List.map_append, hges28]; rfl), h38, rfl⟩, h39, hS23, rfl⟩
      generalize ((m, ob 8 [.int (nI (mN M)), .ref rn10, .ref rk11, .ref rl12, .ref rs13, .ref rst14, .int (mR M), .int (mVt M), .int (nI (mSu M)), .int (nI (mDn M)), .int (bI (mLz M))]) :: (rn10, iA (aC E 0) 5 fn15) :: (rk11, iA (aC E 0) 5 fk16) :: (((rl12, ob 9 [.ref la24, .int (lT (mL M)), .int (lV (mL M)), .int (nI (lB (mL M))), .int (lBT (mL M)), .ref sp25]) :: w140) ++ (ws18 ++ wst19))) = wk45 at hM44 ⊢
      refine g_aload_n hX (pc := 82) dX2_give_82 1 rfl ?_
      refine g_aload_n hX (pc := 83) dX2_give_83 3 rfl ?_
      refine g_callV hX (pc := 84) kX2_settle (mt_Net_settle E l n lm lb lr lo nw mas wm m (mGive M j) wk45 fz34 (rBeg R j nw) wr wq4 (b + 1) hA hM44 h6 (by rw [hrb]; exact give_ok hok1 hjl) (hrq2) (by omega)) q1139 fcX2 (sp_mem (i := 4) rfl) [4, 4, 0, 2, 1, 0] rfl rfl rfl (Nat.le_of_ble_eq_true rfl) (Nat.le_of_ble_eq_true rfl) (Nat.le_of_ble_eq_true rfl) (by omega) (by omega) dX2_give_84 (fun v w1 hp => ?_)
      obtain ⟨w146, w247, h48, h49, rfl, rfl⟩ := hp
      refine g_nrm (cs1 := [[(n, ob 1 [.ref lm, .ref lb, .ref lr, .int lo, .int nw])], wm, w146, wr, w247, fz34]) (st1 := []) rfl rfl ?_
      refine g_iload_n hX (pc := 87) dX2_give_87 0 rfl ?_
      refine g_iret hX (pc := 88) hR ?_ (by omega) (by omega) dX2_give_88
      rw [hgv]
      exact ⟨_, _, _, hx35, h48, h49, rfl, rfl⟩
    · refine g_iconst hX (pc := 44) (v := (-1)) dX2_give_44 (by decide) ?_
      refine g_pk [1, 1, 1, 1, 0, 0, 0] rfl ?_
      refine g_cs (cs1 := [[(m, ob 8 [.int (nI (mN M)), .ref rn10, .ref rk11, .ref rl12, .ref rs13, .ref rst14, .int (mR M), .int (mVt M), .int (nI (mSu M)), .int (nI (mDn M)), .int (bI (mLz M))])], [(rn10, iA (aC E 0) 5 fn15)], [(rk11, iA (aC E 0) 5 fk16)], [(rl12, ob 9 [.ref la24, .int (lT (mL M)), .int (lV (mL M)), .int (nI (lB (mL M))), .int (lBT (mL M)), .ref sp25])], wl17, ws18, wst19, wq4, wr, [(n, ob 1 [.ref lm, .ref lb, .ref lr, .int lo, .int nw])], wm, fz]) rfl ?_
      refine g_fl (cs1 := [((m, ob 8 [.int (nI (mN M)), .ref rn10, .ref rk11, .ref rl12, .ref rs13, .ref rst14, .int (mR M), .int (mVt M), .int (nI (mSu M)), .int (nI (mDn M)), .int (bI (mLz M))]) :: (rn10, iA (aC E 0) 5 fn15) :: (rk11, iA (aC E 0) 5 fk16) :: (((rl12, ob 9 [.ref la24, .int (lT (mL M)), .int (lV (mL M)), .int (nI (lB (mL M))), .int (lBT (mL M)), .ref sp25]) :: wl17) ++ (ws18 ++ wst19))), wq4, wr, [(n, ob 1 [.ref lm, .ref lb, .ref lr, .int lo, .int nw])], wm, fz]) (by simp only [List.flatten_cons, List.flatten_nil, List.cons_append, List.append_assoc, List.nil_append, List.append_nil]) ?_
      have hM50 : IsMach E fz m M ((m, ob 8 [.int (nI (mN M)), .ref rn10, .ref rk11, .ref rl12, .ref rs13, .ref rst14, .int (mR M), .int (mVt M), .int (nI (mSu M)), .int (nI (mDn M)), .int (bI (mLz M))]) :: (rn10, iA (aC E 0) 5 fn15) :: (rk11, iA (aC E 0) 5 fk16) :: (((rl12, ob 9 [.ref la24, .int (lT (mL M)), .int (lV (mL M)), .int (nI (lB (mL M))), .int (lBT (mL M)), .ref sp25]) :: wl17) ++ (ws18 ++ wst19))) := ⟨_, _, _, _, _, _, _, _, _, _, hn20, ⟨_, _, _, _, hE27, hges28, hsp29, rfl⟩, hV22, hS23, rfl⟩
      generalize ((m, ob 8 [.int (nI (mN M)), .ref rn10, .ref rk11, .ref rl12, .ref rs13, .ref rst14, .int (mR M), .int (mVt M), .int (nI (mSu M)), .int (nI (mDn M)), .int (bI (mLz M))]) :: (rn10, iA (aC E 0) 5 fn15) :: (rk11, iA (aC E 0) 5 fk16) :: (((rl12, ob 9 [.ref la24, .int (lT (mL M)), .int (lV (mL M)), .int (nI (lB (mL M))), .int (lBT (mL M)), .ref sp25]) :: wl17) ++ (ws18 ++ wst19))) = wk51 at hM50 ⊢
      refine g_pk [3, 3, 0, 1, 0, 0] rfl ?_
      refine g_cs (cs1 := [[(n, ob 1 [.ref lm, .ref lb, .ref lr, .int lo, .int nw])], wm, wk51, wr, wq4, fz]) rfl ?_
      refine g_iret hX (pc := 45) hR ?_ (by omega) (by omega) dX2_give_45
      rw [show (pGive (List.length mas) nw M R j) = (en3 M (rBeg R j nw), (-1)) from if_neg (fun z => c32 (show nI (lE (mL M)).length < nI 30 from (nI_ltI (by omega) (by omega)).mpr z.2))]
      exact ⟨_, _, _, Ext.rfl', hM50, h6, rfl, rfl⟩

set_option maxHeartbeats 4000000 in
theorem mt_Net_compact (E : EE) (l : Launch) (n : Nat) (lm : Nat) (lb : Nat) (lr : Nat) (lo : Int32) (nw : Int32) (mas : List Nat) (wm : va_W) (m : Nat) (M : PM) (wk : va_W) (fz : va_W) (R : List PR) (wr : va_W) (wq : va_W) (b : Nat) (hA : AL E lm mas wm) (hM : IsMach E fz m M wk) (hRq : RL E lr R wr wq) (hok : (mOK (List.length mas) (List.length R) b M)) (hrq : (rqOK R)) (hb : (b ≤ 33)) : Mt E l yX2_compact cX2_compact 3 (some .int) 10 13 120 237 [.ref n, .ref m] [[(n, ob 1 [.ref lm, .ref lb, .ref lr, .int lo, .int nw])], wm, wk, wr, wq, fz] (fun (v_ : Option Value) (cs_ : List va_W) => ∃ (fz1 : va_W) (w1 : va_W) (w2 : va_W), Ext E fz fz1 ∧ IsMach E fz1 m (Prod.fst (settle (List.length mas) nw (mComp M) R)) w1 ∧ RL E lr (Prod.snd (settle (List.length mas) nw (mComp M) R)) wr w2 ∧ v_ = some (.int (nI (compN M))) ∧ cs_ = [[(n, ob 1 [.ref lm, .ref lb, .ref lr, .int lo, .int nw])], wm, w1, wr, w2, fz1]) := by
  have hok1 := hok
  obtain ⟨⟨o1, o2⟩, ⟨o3, o4⟩, ⟨o5, o6, o7, o8⟩, ⟨o9, o10⟩, o11, o12⟩ := hok
  have hll : lLast (mL M) = lB (mL M) + (lE (mL M)).length := rfl
  have hrl := hrq.1
  refine Mt.of (by decide) (Nat.le_of_ble_eq_true rfl) (fun X hX hR hin => ?_)
  refine g_lv1 (lv1 := [(0, .ref n), (1, .ref m)]) rfl ?_
  obtain ⟨rn1, rk2, rl3, rs4, rst5, fn6, fk7, wl8, ws9, wst10, hn11, hL12, hV13, hS14, rfl⟩ := hM
  obtain ⟨la15, sp16, ges17, wl8, hE18, hges19, hsp20, rfl⟩ := hL12
  refine g_fl (cs1 := [[(n, ob 1 [.ref lm, .ref lb, .ref lr, .int lo, .int nw])], wm, [(m, ob 8 [.int (nI (mN M)), .ref rn1, .ref rk2, .ref rl3, .ref rs4, .ref rst5, .int (mR M), .int (mVt M), .int (nI (mSu M)), .int (nI (mDn M)), .int (bI (mLz M))])], [(rn1, iA (aC E 0) 5 fn6)], [(rk2, iA (aC E 0) 5 fk7)], [(rl3, ob 9 [.ref la15, .int (lT (mL M)), .int (lV (mL M)), .int (nI (lB (mL M))), .int (lBT (mL M)), .ref sp16])], wl8, ws9, wst10, wr, wq, fz]) (by simp only [List.flatten_cons, List.flatten_nil, List.cons_append, List.append_assoc, List.nil_append, List.append_nil]) ?_
  have hl_ges17 : List.length ges17 = List.length (lE (mL M)) := by rw [← hges19, List.length_map]
  refine g_aload_n hX (pc := 0) dX2_compact_0 1 rfl ?_
  refine g_getN hX (pc := 1) fcX9 2 rfl 3 (by decide) q933 rfl (v := .ref rl3) rfl dX2_compact_1 ?_
  refine g_getN hX (pc := 4) fcX10 5 rfl 0 (by decide) q840 rfl (v := .ref la15) rfl dX2_compact_4 ?_
  obtain ⟨fs21, hm22⟩ := AL.head hE18.1
  refine g_callF hX (pc := 7) kfJ2_size (mt_AL_size E l la15 (List.map Prod.fst ges17) wl8 hE18.1) q189 fcJ2 (sp_in 6 rfl hm22) [6] rfl rfl rfl (Nat.le_of_ble_eq_true rfl) (Nat.le_of_ble_eq_true rfl) (Nat.le_of_ble_eq_true rfl) (by omega) (by omega) dX2_compact_7 (fun v w1 hp => ?_)
  obtain ⟨rfl, rfl⟩ := hp
  refine g_nrm (cs1 := [wl8, [(n, ob 1 [.ref lm, .ref lb, .ref lr, .int lo, .int nw])], wm, [(m, ob 8 [.int (nI (mN M)), .ref rn1, .ref rk2, .ref rl3, .ref rs4, .ref rst5, .int (mR M), .int (mVt M), .int (nI (mSu M)), .int (nI (mDn M)), .int (bI (mLz M))])], [(rn1, iA (aC E 0) 5 fn6)], [(rk2, iA (aC E 0) 5 fk7)], [(rl3, ob 9 [.ref la15, .int (lT (mL M)), .int (lV (mL M)), .int (nI (lB (mL M))), .int (lBT (mL M)), .ref sp16])], ws9, wst10, wr, wq, fz]) (st1 := [.int (nI (List.length (List.map Prod.fst ges17)))]) rfl rfl ?_
  refine g_eqi (nI (List.length (lE (mL M)))) (by rw [List.length_map, hl_ges17]) ?_
  refine g_istore_n hX (pc := 12) (lv1 := [(2, .int (nI (List.length (lE (mL M))))), (0, .ref n), (1, .ref m)]) dX2_compact_12 (by decide) rfl ?_
  refine g_aload_n hX (pc := 13) dX2_compact_13 2 rfl ?_
  refine g_getN hX (pc := 14) fcX9 3 rfl 9 (by decide) q947 rfl (v := .int (nI (mDn M))) rfl dX2_compact_14 ?_
  refine g_aload_n hX (pc := 17) dX2_compact_17 2 rfl ?_
  refine g_getN hX (pc := 18) fcX9 3 rfl 3 (by decide) q933 rfl (v := .ref rl3) rfl dX2_compact_18 ?_
  refine g_callV hX (pc := 21) kX10_last (mt_Log_last E l rl3 la15 (lT (mL M)) (lV (mL M)) (lB (mL M)) (lBT (mL M)) sp16 fz ges17 wl8 hE18) q235 fcX10 (sp_mem (i := 6) rfl) [6, 0] rfl rfl rfl (Nat.le_of_ble_eq_true rfl) (Nat.le_of_ble_eq_true rfl) (Nat.le_of_ble_eq_true rfl) (by omega) (by omega) dX2_compact_21 (fun v w1 hp => ?_)
  obtain ⟨rfl, rfl⟩ := hp
  refine g_nrm (cs1 := [[(rl3, ob 9 [.ref la15, .int (lT (mL M)), .int (lV (mL M)), .int (nI (lB (mL M))), .int (lBT (mL M)), .ref sp16])], wl8, [(n, ob 1 [.ref lm, .ref lb, .ref lr, .int lo, .int nw])], wm, [(m, ob 8 [.int (nI (mN M)), .ref rn1, .ref rk2, .ref rl3, .ref rs4, .ref rst5, .int (mR M), .int (mVt M), .int (nI (mSu M)), .int (nI (mDn M)), .int (bI (mLz M))])], [(rn1, iA (aC E 0) 5 fn6)], [(rk2, iA (aC E 0) 5 fk7)], ws9, wst10, wr, wq, fz]) (st1 := [.int (nI ((lB (mL M)) + List.length ges17)), .int (nI (mDn M))]) rfl rfl ?_
  refine g_eqi (nI (lLast (mL M))) (by rw [hl_ges17]) ?_
  refine g_icmp_gt hX (pc := 24) (tgt := 56) dX2_compact_24 rfl (fun c23 => ?_) (fun c23 => ?_)
  · have d1 : ¬ mDn M ≤ lLast (mL M) := by
      have := (nI_ltI (by omega) (by omega)).mp c23
      omega
    refine g_pk [4, 4, 4, 0, 0, 2, 2] rfl ?_
    refine g_cs (cs1 := [[(m, ob 8 [.int (nI (mN M)), .ref rn1, .ref rk2, .ref rl3, .ref rs4, .ref rst5, .int (mR M), .int (mVt M), .int (nI (mSu M)), .int (nI (mDn M)), .int (bI (mLz M))])], [(rn1, iA (aC E 0) 5 fn6)], [(rk2, iA (aC E 0) 5 fk7)], [(rl3, ob 9 [.ref la15, .int (lT (mL M)), .int (lV (mL M)), .int (nI (lB (mL M))), .int (lBT (mL M)), .ref sp16])], wl8, ws9, wst10, [(n, ob 1 [.ref lm, .ref lb, .ref lr, .int lo, .int nw])], wm, wr, wq, fz]) rfl ?_
    refine g_fl (cs1 := [((m, ob 8 [.int (nI (mN M)), .ref rn1, .ref rk2, .ref rl3, .ref rs4, .ref rst5, .int (mR M), .int (mVt M), .int (nI (mSu M)), .int (nI (mDn M)), .int (bI (mLz M))]) :: (rn1, iA (aC E 0) 5 fn6) :: (rk2, iA (aC E 0) 5 fk7) :: (((rl3, ob 9 [.ref la15, .int (lT (mL M)), .int (lV (mL M)), .int (nI (lB (mL M))), .int (lBT (mL M)), .ref sp16]) :: wl8) ++ (ws9 ++ wst10))), [(n, ob 1 [.ref lm, .ref lb, .ref lr, .int lo, .int nw])], wm, wr, wq, fz]) (by simp only [List.flatten_cons, List.flatten_nil, List.cons_append, List.append_assoc, List.nil_append, List.append_nil]) ?_
    have hM24 : IsMach E fz m M ((m, ob 8 [.int (nI (mN M)), .ref rn1, .ref rk2, .ref rl3, .ref rs4, .ref rst5, .int (mR M), .int (mVt M), .int (nI (mSu M)), .int (nI (mDn M)), .int (bI (mLz M))]) :: (rn1, iA (aC E 0) 5 fn6) :: (rk2, iA (aC E 0) 5 fk7) :: (((rl3, ob 9 [.ref la15, .int (lT (mL M)), .int (lV (mL M)), .int (nI (lB (mL M))), .int (lBT (mL M)), .ref sp16]) :: wl8) ++ (ws9 ++ wst10))) := ⟨_, _, _, _, _, _, _, _, _, _, hn11, ⟨_, _, _, _, hE18, hges19, hsp20, rfl⟩, hV13, hS14, rfl⟩
    generalize ((m, ob 8 [.int (nI (mN M)), .ref rn1, .ref rk2, .ref rl3, .ref rs4, .ref rst5, .int (mR M), .int (mVt M), .int (nI (mSu M)), .int (nI (mDn M)), .int (bI (mLz M))]) :: (rn1, iA (aC E 0) 5 fn6) :: (rk2, iA (aC E 0) 5 fk7) :: (((rl3, ob 9 [.ref la15, .int (lT (mL M)), .int (lV (mL M)), .int (nI (lB (mL M))), .int (lBT (mL M)), .ref sp16]) :: wl8) ++ (ws9 ++ wst10))) = wk25 at hM24 ⊢
    have ht26 : mComp M = M := if_neg (by omega)
    refine g_lv1 (lv1 := [(2, .int (nI (List.length (lE (mL (mComp M)))))), (0, .ref n), (1, .ref m)]) (by rw [ht26]) ?_
    have h27 : StIn E fz sp16 (lS (mL (mComp M))) := by rw [ht26]; exact hsp20
    have h28 : IsMach E fz m (mComp M) wk25 := by rw [ht26]; exact hM24
    have hcn := comp_n (M := M) o5
    have hsl := settle_L (now := nw) (comp_ok hok1) hrq
    refine g_aload_n hX (pc := 56) dX2_compact_56 1 rfl ?_
    refine g_aload_n hX (pc := 57) dX2_compact_57 2 rfl ?_
    refine g_callV hX (pc := 58) kX2_settle (mt_Net_settle E l n lm lb lr lo nw mas wm m (mComp M) wk25 fz R wr wq b hA h28 hRq (comp_ok hok1) (hrq) (by omega)) q1139 fcX2 (sp_mem (i := 1) rfl) [1, 1, 0, 0, 0, 0] rfl rfl rfl (Nat.le_of_ble_eq_true rfl) (Nat.le_of_ble_eq_true rfl) (Nat.le_of_ble_eq_true rfl) (by omega) (by omega) dX2_compact_58 (fun v w1 hp => ?_)
    obtain ⟨w129, w230, h31, h32, rfl, rfl⟩ := hp
    refine g_nrm (cs1 := [[(n, ob 1 [.ref lm, .ref lb, .ref lr, .int lo, .int nw])], wm, w129, wr, w230, fz]) (st1 := []) rfl rfl ?_
    refine g_iload_n hX (pc := 61) dX2_compact_61 0 rfl ?_
    obtain ⟨rn33, rk34, rl35, rs36, rst37, fn38, fk39, wl40, ws41, wst42, hn43, hL44, hV45, hS46, rfl⟩ := h31
    obtain ⟨la47, sp48, ges49, wl40, hE50, hges51, hsp52, rfl⟩ := hL44
    refine g_fl (cs1 := [[(n, ob 1 [.ref lm, .ref lb, .ref lr, .int lo, .int nw])], wm, [(m, ob 8 [.int (nI (mN (Prod.fst (settle (List.length mas) nw (mComp M) R)))), .ref rn33, .ref rk34, .ref rl35, .ref rs36, .ref rst37, .int (mR (Prod.fst (settle (List.length mas) nw (mComp M) R))), .int (mVt (Prod.fst (settle (List.length mas) nw (mComp M) R))), .int (nI (mSu (Prod.fst (settle (List.length mas) nw (mComp M) R)))), .int (nI (mDn (Prod.fst (settle (List.length mas) nw (mComp M) R)))), .int (bI (mLz (Prod.fst (settle (List.length mas) nw (mComp M) R))))])], [(rn33, iA (aC E 0) 5 fn38)], [(rk34, iA (aC E 0) 5 fk39)], [(rl35, ob 9 [.ref la47, .int (lT (mL (Prod.fst (settle (List.length mas) nw (mComp M) R)))), .int (lV (mL (Prod.fst (settle (List.length mas) nw (mComp M) R)))), .int (nI (lB (mL (Prod.fst (settle (List.length mas) nw (mComp M) R))))), .int (lBT (mL (Prod.fst (settle (List.length mas) nw (mComp M) R)))), .ref sp48])], wl40, ws41, wst42, wr, w230, fz]) (by simp only [List.flatten_cons, List.flatten_nil, List.cons_append, List.append_assoc, List.nil_append, List.append_nil]) ?_
    have hl_ges49 : List.length ges49 = List.length (lE (mL (Prod.fst (settle (List.length mas) nw (mComp M) R)))) := by rw [← hges51, List.length_map]
    refine g_aload_n hX (pc := 62) dX2_compact_62 2 rfl ?_
    refine g_getN hX (pc := 63) fcX9 2 rfl 3 (by decide) q933 rfl (v := .ref rl35) rfl dX2_compact_63 ?_
    refine g_getN hX (pc := 66) fcX10 5 rfl 0 (by decide) q840 rfl (v := .ref la47) rfl dX2_compact_66 ?_
    obtain ⟨fs53, hm54⟩ := AL.head hE50.1
    refine g_callF hX (pc := 69) kfJ2_size (mt_AL_size E l la47 (List.map Prod.fst ges49) wl40 hE50.1) q189 fcJ2 (sp_in 6 rfl hm54) [6] rfl rfl rfl (Nat.le_of_ble_eq_true rfl) (Nat.le_of_ble_eq_true rfl) (Nat.le_of_ble_eq_true rfl) (by omega) (by omega) dX2_compact_69 (fun v w1 hp => ?_)
    obtain ⟨rfl, rfl⟩ := hp
    refine g_nrm (cs1 := [wl40, [(n, ob 1 [.ref lm, .ref lb, .ref lr, .int lo, .int nw])], wm, [(m, ob 8 [.int (nI (mN (Prod.fst (settle (List.length mas) nw (mComp M) R)))), .ref rn33, .ref rk34, .ref rl35, .ref rs36, .ref rst37, .int (mR (Prod.fst (settle (List.length mas) nw (mComp M) R))), .int (mVt (Prod.fst (settle (List.length mas) nw (mComp M) R))), .int (nI (mSu (Prod.fst (settle (List.length mas) nw (mComp M) R)))), .int (nI (mDn (Prod.fst (settle (List.length mas) nw (mComp M) R)))), .int (bI (mLz (Prod.fst (settle (List.length mas) nw (mComp M) R))))])], [(rn33, iA (aC E 0) 5 fn38)], [(rk34, iA (aC E 0) 5 fk39)], [(rl35, ob 9 [.ref la47, .int (lT (mL (Prod.fst (settle (List.length mas) nw (mComp M) R)))), .int (lV (mL (Prod.fst (settle (List.length mas) nw (mComp M) R)))), .int (nI (lB (mL (Prod.fst (settle (List.length mas) nw (mComp M) R))))), .int (lBT (mL (Prod.fst (settle (List.length mas) nw (mComp M) R)))), .ref sp48])], ws41, wst42, wr, w230, fz]) (st1 := [.int (nI (List.length (List.map Prod.fst ges49))), .int (nI (List.length (lE (mL (mComp M)))))]) rfl rfl ?_
    refine g_eqi (nI (List.length (lE (mL (mComp M))))) (by rw [List.length_map, hl_ges49, hsl]) ?_
    refine g_isub hX (pc := 74) dX2_compact_74 ?_
    refine g_eqi (nI (compN M)) (by first | rw [pk_sub hcn.2, hcn.1] | rw [pk_sub (Nat.le_refl _), Nat.sub_self, show compN M = 0 from if_neg d1]) ?_
    refine g_pk [3, 3, 3, 3, 0, 2, 2] rfl ?_
    refine g_cs (cs1 := [[(m, ob 8 [.int (nI (mN (Prod.fst (settle (List.length mas) nw (mComp M) R)))), .ref rn33, .ref rk34, .ref rl35, .ref rs36, .ref rst37, .int (mR (Prod.fst (settle (List.length mas) nw (mComp M) R))), .int (mVt (Prod.fst (settle (List.length mas) nw (mComp M) R))), .int (nI (mSu (Prod.fst (settle (List.length mas) nw (mComp M) R)))), .int (nI (mDn (Prod.fst (settle (List.length mas) nw (mComp M) R)))), .int (bI (mLz (Prod.fst (settle (List.length mas) nw (mComp M) R))))])], [(rn33, iA (aC E 0) 5 fn38)], [(rk34, iA (aC E 0) 5 fk39)], [(rl35, ob 9 [.ref la47, .int (lT (mL (Prod.fst (settle (List.length mas) nw (mComp M) R)))), .int (lV (mL (Prod.fst (settle (List.length mas) nw (mComp M) R)))), .int (nI (lB (mL (Prod.fst (settle (List.length mas) nw (mComp M) R))))), .int (lBT (mL (Prod.fst (settle (List.length mas) nw (mComp M) R)))), .ref sp48])], wl40, ws41, wst42, [(n, ob 1 [.ref lm, .ref lb, .ref lr, .int lo, .int nw])], wm, wr, w230, fz]) rfl ?_
    refine g_fl (cs1 := [((m, ob 8 [.int (nI (mN (Prod.fst (settle (List.length mas) nw (mComp M) R)))), .ref rn33, .ref rk34, .ref rl35, .ref rs36, .ref rst37, .int (mR (Prod.fst (settle (List.length mas) nw (mComp M) R))), .int (mVt (Prod.fst (settle (List.length mas) nw (mComp M) R))), .int (nI (mSu (Prod.fst (settle (List.length mas) nw (mComp M) R)))), .int (nI (mDn (Prod.fst (settle (List.length mas) nw (mComp M) R)))), .int (bI (mLz (Prod.fst (settle (List.length mas) nw (mComp M) R))))]) :: (rn33, iA (aC E 0) 5 fn38) :: (rk34, iA (aC E 0) 5 fk39) :: (((rl35, ob 9 [.ref la47, .int (lT (mL (Prod.fst (settle (List.length mas) nw (mComp M) R)))), .int (lV (mL (Prod.fst (settle (List.length mas) nw (mComp M) R)))), .int (nI (lB (mL (Prod.fst (settle (List.length mas) nw (mComp M) R))))), .int (lBT (mL (Prod.fst (settle (List.length mas) nw (mComp M) R)))), .ref sp48]) :: wl40) ++ (ws41 ++ wst42))), [(n, ob 1 [.ref lm, .ref lb, .ref lr, .int lo, .int nw])], wm, wr, w230, fz]) (by simp only [List.flatten_cons, List.flatten_nil, List.cons_append, List.append_assoc, List.nil_append, List.append_nil]) ?_
    have hM55 : IsMach E fz m (Prod.fst (settle (List.length mas) nw (mComp M) R)) ((m, ob 8 [.int (nI (mN (Prod.fst (settle (List.length mas) nw (mComp M) R)))), .ref rn33, .ref rk34, .ref rl35, .ref rs36, .ref rst37, .int (mR (Prod.fst (settle (List.length mas) nw (mComp M) R))), .int (mVt (Prod.fst (settle (List.length mas) nw (mComp M) R))), .int (nI (mSu (Prod.fst (settle (List.length mas) nw (mComp M) R)))), .int (nI (mDn (Prod.fst (settle (List.length mas) nw (mComp M) R)))), .int (bI (mLz (Prod.fst (settle (List.length mas) nw (mComp M) R))))]) :: (rn33, iA (aC E 0) 5 fn38) :: (rk34, iA (aC E 0) 5 fk39) :: (((rl35, ob 9 [.ref la47, .int (lT (mL (Prod.fst (settle (List.length mas) nw (mComp M) R)))), .int (lV (mL (Prod.fst (settle (List.length mas) nw (mComp M) R)))), .int (nI (lB (mL (Prod.fst (settle (List.length mas) nw (mComp M) R))))), .int (lBT (mL (Prod.fst (settle (List.length mas) nw (mComp M) R)))), .ref sp48]) :: wl40) ++ (ws41 ++ wst42))) := ⟨_, _, _, _, _, _, _, _, _, _, hn43, ⟨_, _, _, _, hE50, hges51, hsp52, rfl⟩, hV45, hS46, rfl⟩
    generalize ((m, ob 8 [.int (nI (mN (Prod.fst (settle (List.length mas) nw (mComp M) R)))), .ref rn33, .ref rk34, .ref rl35, .ref rs36, .ref rst37, .int (mR (Prod.fst (settle (List.length mas) nw (mComp M) R))), .int (mVt (Prod.fst (settle (List.length mas) nw (mComp M) R))), .int (nI (mSu (Prod.fst (settle (List.length mas) nw (mComp M) R)))), .int (nI (mDn (Prod.fst (settle (List.length mas) nw (mComp M) R)))), .int (bI (mLz (Prod.fst (settle (List.length mas) nw (mComp M) R))))]) :: (rn33, iA (aC E 0) 5 fn38) :: (rk34, iA (aC E 0) 5 fk39) :: (((rl35, ob 9 [.ref la47, .int (lT (mL (Prod.fst (settle (List.length mas) nw (mComp M) R)))), .int (lV (mL (Prod.fst (settle (List.length mas) nw (mComp M) R)))), .int (nI (lB (mL (Prod.fst (settle (List.length mas) nw (mComp M) R))))), .int (lBT (mL (Prod.fst (settle (List.length mas) nw (mComp M) R)))), .ref sp48]) :: wl40) ++ (ws41 ++ wst42))) = wk56 at hM55 ⊢
    refine g_pk [1, 1, 0, 0, 0, 0] rfl ?_
    refine g_cs (cs1 := [[(n, ob 1 [.ref lm, .ref lb, .ref lr, .int lo, .int nw])], wm, wk56, wr, w230, fz]) rfl ?_
    refine g_iret hX (pc := 75) hR ?_ (by omega) (by omega) dX2_compact_75
    exact ⟨_, _, _, Ext.rfl', hM55, h32, rfl, rfl⟩
  · have d1 : mDn M ≤ lLast (mL M) := by
      have := mt (nI_ltI (by omega) (by omega)).mpr c23
      omega
    refine g_aload_n hX (pc := 27) dX2_compact_27 2 rfl ?_
    refine g_getN hX (pc := 28) fcX9 4 rfl 3 (by decide) q933 rfl (v := .ref rl3) rfl dX2_compact_28 ?_
    refine g_aload_n hX (pc := 31) dX2_compact_31 2 rfl ?_
    refine g_getN hX (pc := 32) fcX9 4 rfl 9 (by decide) q947 rfl (v := .int (nI (mDn M))) rfl dX2_compact_32 ?_
    refine g_aload_n hX (pc := 35) dX2_compact_35 2 rfl ?_
    refine g_getN hX (pc := 36) fcX9 4 rfl 3 (by decide) q933 rfl (v := .ref rl3) rfl dX2_compact_36 ?_
    refine g_aload_n hX (pc := 39) dX2_compact_39 2 rfl ?_
    refine g_getN hX (pc := 40) fcX9 4 rfl 9 (by decide) q947 rfl (v := .int (nI (mDn M))) rfl dX2_compact_40 ?_
    obtain ⟨g57, hg58, ht59⟩ := tm_ex (L := (mL M)) (n := mDn M) hges19 (by omega) (by omega)
    refine g_callV hX (pc := 43) kX10_termAt (mt_Log_termAt E l rl3 la15 (lT (mL M)) (lV (mL M)) (lB (mL M)) (lBT (mL M)) sp16 fz ges17 wl8 (mDn M) g57 hE18 (hg58) (by omega) (by omega)) q1044 fcX10 (sp_mem (i := 0) rfl) [0, 0, 9] rfl rfl rfl (Nat.le_of_ble_eq_true rfl) (Nat.le_of_ble_eq_true rfl) (Nat.le_of_ble_eq_true rfl) (by omega) (by omega) dX2_compact_43 (fun v w1 hp => ?_)
    obtain ⟨rfl, rfl⟩ := hp
    refine g_nrm (cs1 := [[(rl3, ob 9 [.ref la15, .int (lT (mL M)), .int (lV (mL M)), .int (nI (lB (mL M))), .int (lBT (mL M)), .ref sp16])], wl8, fz, [(n, ob 1 [.ref lm, .ref lb, .ref lr, .int lo, .int nw])], wm, [(m, ob 8 [.int (nI (mN M)), .ref rn1, .ref rk2, .ref rl3, .ref rs4, .ref rst5, .int (mR M), .int (mVt M), .int (nI (mSu M)), .int (nI (mDn M)), .int (bI (mLz M))])], [(rn1, iA (aC E 0) 5 fn6)], [(rk2, iA (aC E 0) 5 fk7)], ws9, wst10, wr, wq]) (st1 := [.int (if (mDn M) = (lB (mL M)) then (lBT (mL M)) else g57.2.1), .int (nI (mDn M)), .ref rl3]) rfl rfl ?_
    refine g_eqi (lTmA (mL M) (mDn M)) (ht59) ?_
    refine g_aload_n hX (pc := 46) dX2_compact_46 2 rfl ?_
    refine g_getN hX (pc := 47) fcX9 5 rfl 5 (by decide) q938 rfl (v := .ref rst5) rfl dX2_compact_47 ?_
    obtain ⟨sr60, hs61⟩ := hS14
    obtain ⟨fs62, hm63⟩ := IsSR.head hs61
    refine g_callV hX (pc := 50) kX8_copy (mt_Store_copy E l rst5 sr60 (mS M) wst10 hs61) q1509 fcX8 (sp_in 9 rfl hm63) [9] rfl rfl rfl (Nat.le_of_ble_eq_true rfl) (Nat.le_of_ble_eq_true rfl) (Nat.le_of_ble_eq_true rfl) (by omega) (by omega) dX2_compact_50 (fun v w1 hp => ?_)
    obtain ⟨q64, w165, h66, rfl, rfl⟩ := hp
    refine g_nrm (cs1 := [w165, wst10, [(rl3, ob 9 [.ref la15, .int (lT (mL M)), .int (lV (mL M)), .int (nI (lB (mL M))), .int (lBT (mL M)), .ref sp16])], wl8, fz, [(n, ob 1 [.ref lm, .ref lb, .ref lr, .int lo, .int nw])], wm, [(m, ob 8 [.int (nI (mN M)), .ref rn1, .ref rk2, .ref rl3, .ref rs4, .ref rst5, .int (mR M), .int (mVt M), .int (nI (mSu M)), .int (nI (mDn M)), .int (bI (mLz M))])], [(rn1, iA (aC E 0) 5 fn6)], [(rk2, iA (aC E 0) 5 fk7)], ws9, wr, wq]) (st1 := [.ref q64, .int (lTmA (mL M) (mDn M)), .int (nI (mDn M)), .ref rl3]) rfl rfl ?_
    refine g_pk [0, 3] rfl ?_
    refine g_cs (cs1 := [w165, fz, wst10, [(rl3, ob 9 [.ref la15, .int (lT (mL M)), .int (lV (mL M)), .int (nI (lB (mL M))), .int (lBT (mL M)), .ref sp16])], wl8, [(n, ob 1 [.ref lm, .ref lb, .ref lr, .int lo, .int nw])], wm, [(m, ob 8 [.int (nI (mN M)), .ref rn1, .ref rk2, .ref rl3, .ref rs4, .ref rst5, .int (mR M), .int (mVt M), .int (nI (mSu M)), .int (nI (mDn M)), .int (bI (mLz M))])], [(rn1, iA (aC E 0) 5 fn6)], [(rk2, iA (aC E 0) 5 fk7)], ws9, wr, wq]) rfl ?_
    refine g_fl (cs1 := [(w165 ++ (fz)), wst10, [(rl3, ob 9 [.ref la15, .int (lT (mL M)), .int (lV (mL M)), .int (nI (lB (mL M))), .int (lBT (mL M)), .ref sp16])], wl8, [(n, ob 1 [.ref lm, .ref lb, .ref lr, .int lo, .int nw])], wm, [(m, ob 8 [.int (nI (mN M)), .ref rn1, .ref rk2, .ref rl3, .ref rs4, .ref rst5, .int (mR M), .int (mVt M), .int (nI (mSu M)), .int (nI (mDn M)), .int (bI (mLz M))])], [(rn1, iA (aC E 0) 5 fn6)], [(rk2, iA (aC E 0) 5 fk7)], ws9, wr, wq]) (by simp only [List.flatten_cons, List.flatten_nil, List.cons_append, List.append_assoc, List.nil_append, List.append_nil]) ?_
    have hx68 : Ext E fz (w165 ++ (fz)) := fun q hq => (List.mem_append_right _ hq)
    have hm69 : ∀ q ∈ w165, q ∈ (w165 ++ (fz)) := fun q hq => (List.mem_append_left _ hq)
    generalize (w165 ++ (fz)) = fz67 at hx68 hm69 ⊢
    have h70 := EL.mono hx68 hE18
    have h71 := StIn.mono hx68 hsp20
    have h72 := IsLog.mono hx68 hV13
    refine g_callV hX (pc := 53) kX10_begin (mt_Log_begin E l rl3 la15 (lT (mL M)) (lV (mL M)) (lB (mL M)) (lBT (mL M)) sp16 fz67 ges17 wl8 (mDn M) (lTmA (mL M) (mDn M)) q64 h70 (by omega) (by omega) (by omega)) q1237 fcX10 (sp_mem (i := 2) rfl) [2, 2, 0] rfl rfl rfl (Nat.le_of_ble_eq_true rfl) (Nat.le_of_ble_eq_true rfl) (Nat.le_of_ble_eq_true rfl) (by omega) (by omega) dX2_compact_53 (fun v w1 hp => ?_)
    obtain ⟨w173, h74, rfl, rfl⟩ := hp
    refine g_nrm (cs1 := [[(rl3, ob 9 [.ref la15, .int (lT (mL M)), .int (lV (mL M)), .int (nI (mDn M)), .int (lTmA (mL M) (mDn M)), .ref q64])], w173, fz67, wst10, [(n, ob 1 [.ref lm, .ref lb, .ref lr, .int lo, .int nw])], wm, [(m, ob 8 [.int (nI (mN M)), .ref rn1, .ref rk2, .ref rl3, .ref rs4, .ref rst5, .int (mR M), .int (mVt M), .int (nI (mSu M)), .int (nI (mDn M)), .int (bI (mLz M))])], [(rn1, iA (aC E 0) 5 fn6)], [(rk2, iA (aC E 0) 5 fk7)], ws9, wr, wq]) (st1 := []) rfl rfl ?_
    refine g_pk [6, 6, 6, 0, 0, 4, 1] rfl ?_
    refine g_cs (cs1 := [[(m, ob 8 [.int (nI (mN M)), .ref rn1, .ref rk2, .ref rl3, .ref rs4, .ref rst5, .int (mR M), .int (mVt M), .int (nI (mSu M)), .int (nI (mDn M)), .int (bI (mLz M))])], [(rn1, iA (aC E 0) 5 fn6)], [(rk2, iA (aC E 0) 5 fk7)], [(rl3, ob 9 [.ref la15, .int (lT (mL M)), .int (lV (mL M)), .int (nI (mDn M)), .int (lTmA (mL M) (mDn M)), .ref q64])], w173, ws9, wst10, fz67, [(n, ob 1 [.ref lm, .ref lb, .ref lr, .int lo, .int nw])], wm, wr, wq]) rfl ?_
    refine g_fl (cs1 := [((m, ob 8 [.int (nI (mN M)), .ref rn1, .ref rk2, .ref rl3, .ref rs4, .ref rst5, .int (mR M), .int (mVt M), .int (nI (mSu M)), .int (nI (mDn M)), .int (bI (mLz M))]) :: (rn1, iA (aC E 0) 5 fn6) :: (rk2, iA (aC E 0) 5 fk7) :: (((rl3, ob 9 [.ref la15, .int (lT (mL M)), .int (lV (mL M)), .int (nI (mDn M)), .int (lTmA (mL M) (mDn M)), .ref q64]) :: w173) ++ (ws9 ++ wst10))), fz67, [(n, ob 1 [.ref lm, .ref lb, .ref lr, .int lo, .int nw])], wm, wr, wq]) (by simp only [List.flatten_cons, List.flatten_nil, List.cons_append, List.append_assoc, List.nil_append, List.append_nil]) ?_
    have hM75 : IsMach E fz67 m (mCompD M) ((m, ob 8 [.int (nI (mN M)), .ref rn1, .ref rk2, .ref rl3, .ref rs4, .ref rst5, .int (mR M), .int (mVt M), .int (nI (mSu M)), .int (nI (mDn M)), .int (bI (mLz M))]) :: (rn1, iA (aC E 0) 5 fn6) :: (rk2, iA (aC E 0) 5 fk7) :: (((rl3, ob 9 [.ref la15, .int (lT (mL M)), .int (lV (mL M)), .int (nI (mDn M)), .int (lTmA (mL M) (mDn M)), .ref q64]) :: w173) ++ (ws9 ++ wst10))) := ⟨_, _, _, _, _, _, _, _, _, _, hn11, ⟨_, _, _, _, h74, (by rw [List.map_drop, hges19]; rfl), ⟨_, h66, hm69⟩, rfl⟩, h72, ⟨_, hs61⟩, rfl⟩
    generalize ((m, ob 8 [.int (nI (mN M)), .ref rn1, .ref rk2, .ref rl3, .ref rs4, .ref rst5, .int (mR M), .int (mVt M), .int (nI (mSu M)), .int (nI (mDn M)), .int (bI (mLz M))]) :: (rn1, iA (aC E 0) 5 fn6) :: (rk2, iA (aC E 0) 5 fk7) :: (((rl3, ob 9 [.ref la15, .int (lT (mL M)), .int (lV (mL M)), .int (nI (mDn M)), .int (lTmA (mL M) (mDn M)), .ref q64]) :: w173) ++ (ws9 ++ wst10))) = wk76 at hM75 ⊢
    have ht77 : mComp M = mCompD M := if_pos d1
    have h78 : IsMach E fz67 m (mComp M) wk76 := by rw [ht77]; exact hM75
    have hcn := comp_n (M := M) o5
    have hsl := settle_L (now := nw) (comp_ok hok1) hrq
    refine g_aload_n hX (pc := 56) dX2_compact_56 1 rfl ?_
    refine g_aload_n hX (pc := 57) dX2_compact_57 2 rfl ?_
    refine g_callV hX (pc := 58) kX2_settle (mt_Net_settle E l n lm lb lr lo nw mas wm m (mComp M) wk76 fz67 R wr wq b hA h78 hRq (comp_ok hok1) (hrq) (by omega)) q1139 fcX2 (sp_mem (i := 2) rfl) [2, 2, 0, 1, 1, 0] rfl rfl rfl (Nat.le_of_ble_eq_true rfl) (Nat.le_of_ble_eq_true rfl) (Nat.le_of_ble_eq_true rfl) (by omega) (by omega) dX2_compact_58 (fun v w1 hp => ?_)
    obtain ⟨w179, w280, h81, h82, rfl, rfl⟩ := hp
    refine g_nrm (cs1 := [[(n, ob 1 [.ref lm, .ref lb, .ref lr, .int lo, .int nw])], wm, w179, wr, w280, fz67]) (st1 := []) rfl rfl ?_
    refine g_iload_n hX (pc := 61) dX2_compact_61 0 rfl ?_
    obtain ⟨rn83, rk84, rl85, rs86, rst87, fn88, fk89, wl90, ws91, wst92, hn93, hL94, hV95, hS96, rfl⟩ := h81
    obtain ⟨la97, sp98, ges99, wl90, hE100, hges101, hsp102, rfl⟩ := hL94
    refine g_fl (cs1 := [[(n, ob 1 [.ref lm, .ref lb, .ref lr, .int lo, .int nw])], wm, [(m, ob 8 [.int (nI (mN (Prod.fst (settle (List.length mas) nw (mComp M) R)))), .ref rn83, .ref rk84, .ref rl85, .ref rs86, .ref rst87, .int (mR (Prod.fst (settle (List.length mas) nw (mComp M) R))), .int (mVt (Prod.fst (settle (List.length mas) nw (mComp M) R))), .int (nI (mSu (Prod.fst (settle (List.length mas) nw (mComp M) R)))), .int (nI (mDn (Prod.fst (settle (List.length mas) nw (mComp M) R)))), .int (bI (mLz (Prod.fst (settle (List.length mas) nw (mComp M) R))))])], [(rn83, iA (aC E 0) 5 fn88)], [(rk84, iA (aC E 0) 5 fk89)], [(rl85, ob 9 [.ref la97, .int (lT (mL (Prod.fst (settle (List.length mas) nw (mComp M) R)))), .int (lV (mL (Prod.fst (settle (List.length mas) nw (mComp M) R)))), .int (nI (lB (mL (Prod.fst (settle (List.length mas) nw (mComp M) R))))), .int (lBT (mL (Prod.fst (settle (List.length mas) nw (mComp M) R)))), .ref sp98])], wl90, ws91, wst92, wr, w280, fz67]) (by simp only [List.flatten_cons, List.flatten_nil, List.cons_append, List.append_assoc, List.nil_append, List.append_nil]) ?_
    have hl_ges99 : List.length ges99 = List.length (lE (mL (Prod.fst (settle (List.length mas) nw (mComp M) R)))) := by rw [← hges101, List.length_map]
    refine g_aload_n hX (pc := 62) dX2_compact_62 2 rfl ?_
    refine g_getN hX (pc := 63) fcX9 2 rfl 3 (by decide) q933 rfl (v := .ref rl85) rfl dX2_compact_63 ?_
    refine g_getN hX (pc := 66) fcX10 5 rfl 0 (by decide) q840 rfl (v := .ref la97) rfl dX2_compact_66 ?_
    obtain ⟨fs103, hm104⟩ := AL.head hE100.1
    refine g_callF hX (pc := 69) kfJ2_size (mt_AL_size E l la97 (List.map Prod.fst ges99) wl90 hE100.1) q189 fcJ2 (sp_in 6 rfl hm104) [6] rfl rfl rfl (Nat.le_of_ble_eq_true rfl) (Nat.le_of_ble_eq_true rfl) (Nat.le_of_ble_eq_true rfl) (by omega) (by omega) dX2_compact_69 (fun v w1 hp => ?_)
    obtain ⟨rfl, rfl⟩ := hp
    refine g_nrm (cs1 := [wl90, [(n, ob 1 [.ref lm, .ref lb, .ref lr, .int lo, .int nw])], wm, [(m, ob 8 [.int (nI (mN (Prod.fst (settle (List.length mas) nw (mComp M) R)))), .ref rn83, .ref rk84, .ref rl85, .ref rs86, .ref rst87, .int (mR (Prod.fst (settle (List.length mas) nw (mComp M) R))), .int (mVt (Prod.fst (settle (List.length mas) nw (mComp M) R))), .int (nI (mSu (Prod.fst (settle (List.length mas) nw (mComp M) R)))), .int (nI (mDn (Prod.fst (settle (List.length mas) nw (mComp M) R)))), .int (bI (mLz (Prod.fst (settle (List.length mas) nw (mComp M) R))))])], [(rn83, iA (aC E 0) 5 fn88)], [(rk84, iA (aC E 0) 5 fk89)], [(rl85, ob 9 [.ref la97, .int (lT (mL (Prod.fst (settle (List.length mas) nw (mComp M) R)))), .int (lV (mL (Prod.fst (settle (List.length mas) nw (mComp M) R)))), .int (nI (lB (mL (Prod.fst (settle (List.length mas) nw (mComp M) R))))), .int (lBT (mL (Prod.fst (settle (List.length mas) nw (mComp M) R)))), .ref sp98])], ws91, wst92, wr, w280, fz67]) (st1 := [.int (nI (List.length (List.map Prod.fst ges99))), .int (nI (List.length (lE (mL M))))]) rfl rfl ?_
    refine g_eqi (nI (List.length (lE (mL (mComp M))))) (by rw [List.length_map, hl_ges99, hsl]) ?_
    refine g_isub hX (pc := 74) dX2_compact_74 ?_
    refine g_eqi (nI (compN M)) (by first | rw [pk_sub hcn.2, hcn.1] | rw [pk_sub (Nat.le_refl _), Nat.sub_self, show compN M = 0 from if_neg d1]) ?_
    refine g_pk [3, 3, 3, 3, 0, 2, 2] rfl ?_
    refine g_cs (cs1 := [[(m, ob 8 [.int (nI (mN (Prod.fst (settle (List.length mas) nw (mComp M) R)))), .ref rn83, .ref rk84, .ref rl85, .ref rs86, .ref rst87, .int (mR (Prod.fst (settle (List.length mas) nw (mComp M) R))), .int (mVt (Prod.fst (settle (List.length mas) nw (mComp M) R))), .int (nI (mSu (Prod.fst (settle (List.length mas) nw (mComp M) R)))), .int (nI (mDn (Prod.fst (settle (List.length mas) nw (mComp M) R)))), .int (bI (mLz (Prod.fst (settle (List.length mas) nw (mComp M) R))))])], [(rn83, iA (aC E 0) 5 fn88)], [(rk84, iA (aC E 0) 5 fk89)], [(rl85, ob 9 [.ref la97, .int (lT (mL (Prod.fst (settle (List.length mas) nw (mComp M) R)))), .int (lV (mL (Prod.fst (settle (List.length mas) nw (mComp M) R)))), .int (nI (lB (mL (Prod.fst (settle (List.length mas) nw (mComp M) R))))), .int (lBT (mL (Prod.fst (settle (List.length mas) nw (mComp M) R)))), .ref sp98])], wl90, ws91, wst92, [(n, ob 1 [.ref lm, .ref lb, .ref lr, .int lo, .int nw])], wm, wr, w280, fz67]) rfl ?_
    refine g_fl (cs1 := [((m, ob 8 [.int (nI (mN (Prod.fst (settle (List.length mas) nw (mComp M) R)))), .ref rn83, .ref rk84, .ref rl85, .ref rs86, .ref rst87, .int (mR (Prod.fst (settle (List.length mas) nw (mComp M) R))), .int (mVt (Prod.fst (settle (List.length mas) nw (mComp M) R))), .int (nI (mSu (Prod.fst (settle (List.length mas) nw (mComp M) R)))), .int (nI (mDn (Prod.fst (settle (List.length mas) nw (mComp M) R)))), .int (bI (mLz (Prod.fst (settle (List.length mas) nw (mComp M) R))))]) :: (rn83, iA (aC E 0) 5 fn88) :: (rk84, iA (aC E 0) 5 fk89) :: (((rl85, ob 9 [.ref la97, .int (lT (mL (Prod.fst (settle (List.length mas) nw (mComp M) R)))), .int (lV (mL (Prod.fst (settle (List.length mas) nw (mComp M) R)))), .int (nI (lB (mL (Prod.fst (settle (List.length mas) nw (mComp M) R))))), .int (lBT (mL (Prod.fst (settle (List.length mas) nw (mComp M) R)))), .ref sp98]) :: wl90) ++ (ws91 ++ wst92))), [(n, ob 1 [.ref lm, .ref lb, .ref lr, .int lo, .int nw])], wm, wr, w280, fz67]) (by simp only [List.flatten_cons, List.flatten_nil, List.cons_append, List.append_assoc, List.nil_append, List.append_nil]) ?_
    have hM105 : IsMach E fz67 m (Prod.fst (settle (List.length mas) nw (mComp M) R)) ((m, ob 8 [.int (nI (mN (Prod.fst (settle (List.length mas) nw (mComp M) R)))), .ref rn83, .ref rk84, .ref rl85, .ref rs86, .ref rst87, .int (mR (Prod.fst (settle (List.length mas) nw (mComp M) R))), .int (mVt (Prod.fst (settle (List.length mas) nw (mComp M) R))), .int (nI (mSu (Prod.fst (settle (List.length mas) nw (mComp M) R)))), .int (nI (mDn (Prod.fst (settle (List.length mas) nw (mComp M) R)))), .int (bI (mLz (Prod.fst (settle (List.length mas) nw (mComp M) R))))]) :: (rn83, iA (aC E 0) 5 fn88) :: (rk84, iA (aC E 0) 5 fk89) :: (((rl85, ob 9 [.ref la97, .int (lT (mL (Prod.fst (settle (List.length mas) nw (mComp M) R)))), .int (lV (mL (Prod.fst (settle (List.length mas) nw (mComp M) R)))), .int (nI (lB (mL (Prod.fst (settle (List.length mas) nw (mComp M) R))))), .int (lBT (mL (Prod.fst (settle (List.length mas) nw (mComp M) R)))), .ref sp98]) :: wl90) ++ (ws91 ++ wst92))) := ⟨_, _, _, _, _, _, _, _, _, _, hn93, ⟨_, _, _, _, hE100, hges101, hsp102, rfl⟩, hV95, hS96, rfl⟩
    generalize ((m, ob 8 [.int (nI (mN (Prod.fst (settle (List.length mas) nw (mComp M) R)))), .ref rn83, .ref rk84, .ref rl85, .ref rs86, .ref rst87, .int (mR (Prod.fst (settle (List.length mas) nw (mComp M) R))), .int (mVt (Prod.fst (settle (List.length mas) nw (mComp M) R))), .int (nI (mSu (Prod.fst (settle (List.length mas) nw (mComp M) R)))), .int (nI (mDn (Prod.fst (settle (List.length mas) nw (mComp M) R)))), .int (bI (mLz (Prod.fst (settle (List.length mas) nw (mComp M) R))))]) :: (rn83, iA (aC E 0) 5 fn88) :: (rk84, iA (aC E 0) 5 fk89) :: (((rl85, ob 9 [.ref la97, .int (lT (mL (Prod.fst (settle (List.length mas) nw (mComp M) R)))), .int (lV (mL (Prod.fst (settle (List.length mas) nw (mComp M) R)))), .int (nI (lB (mL (Prod.fst (settle (List.length mas) nw (mComp M) R))))), .int (lBT (mL (Prod.fst (settle (List.length mas) nw (mComp M) R)))), .ref sp98]) :: wl90) ++ (ws91 ++ wst92))) = wk106 at hM105 ⊢
    refine g_pk [1, 1, 0, 0, 0, 0] rfl ?_
    refine g_cs (cs1 := [[(n, ob 1 [.ref lm, .ref lb, .ref lr, .int lo, .int nw])], wm, wk106, wr, w280, fz67]) rfl ?_
    refine g_iret hX (pc := 75) hR ?_ (by omega) (by omega) dX2_compact_75
    exact ⟨_, _, _, hx68, hM105, h82, rfl, rfl⟩

set_option maxHeartbeats 4000000 in
theorem mt_Net_quick (E : EE) (l : Launch) (n : Nat) (lm : Nat) (lb : Nat) (lr : Nat) (lo : Int32) (nw : Int32) (m : Nat) (M : PM) (wk : va_W) (fz : va_W) (a : Nat) (r : PR) (hM : IsMach E fz m M wk) (hky : (rY r < 4)) : Mt E l yX2_quick cX2_quick 3 (some .int) 3 0 0 43 [.ref n, .ref a, .ref m] [[(n, ob 1 [.ref lm, .ref lb, .ref lr, .int lo, .int nw])], wk, [(a, ob 10 [.int (nI (rC r)), .ref (aK E (rK r)), .int (nI (rY r)), .int (rA r), .int (rB r), .int (rRes r), .int (rSent r), .int (rAns r), .int (rTimes r)])]] (fun (v_ : Option Value) (cs_ : List va_W) => v_ = some (.int (if mR M = 3 then rRes (rQuick M r nw) else (-1))) ∧ cs_ = [[(n, ob 1 [.ref lm, .ref lb, .ref lr, .int lo, .int nw])], wk, [(a, ob 10 [.int (nI (rC (rQuick M r nw))), .ref (aK E (rK (rQuick M r nw))), .int (nI (rY (rQuick M r nw))), .int (rA (rQuick M r nw)), .int (rB (rQuick M r nw)), .int (rRes (rQuick M r nw)), .int (rSent (rQuick M r nw)), .int (rAns (rQuick M r nw)), .int (rTimes (rQuick M r nw))])]]) := by
  refine Mt.of (by decide) (Nat.le_of_ble_eq_true rfl) (fun X hX hR hin => ?_)
  refine g_lv1 (lv1 := [(0, .ref n), (1, .ref a), (2, .ref m)]) rfl ?_
  refine g_aload_n hX (pc := 0) dX2_quick_0 2 rfl ?_
  obtain ⟨fs1, hm2⟩ := IsMach.head hM
  refine g_callV hX (pc := 1) kX9_isLeader (mt_Machine_isLeaderM E l m M wk fz hM) q225 fcX9 (sp_in 1 rfl hm2) [1] rfl rfl rfl (Nat.le_of_ble_eq_true rfl) (Nat.le_of_ble_eq_true rfl) (Nat.le_of_ble_eq_true rfl) (by omega) (by omega) dX2_quick_1 (fun v w1 hp => ?_)
  obtain ⟨rfl, rfl⟩ := hp
  refine g_nrm (cs1 := [wk, [(n, ob 1 [.ref lm, .ref lb, .ref lr, .int lo, .int nw])], [(a, ob 10 [.int (nI (rC r)), .ref (aK E (rK r)), .int (nI (rY r)), .int (rA r), .int (rB r), .int (rRes r), .int (rSent r), .int (rAns r), .int (rTimes r)])]]) (st1 := [.int (if mR M = 3 then 1 else 0)]) rfl rfl ?_
  refine g_if_ne hX (pc := 4) (tgt := 9) dX2_quick_4 rfl (fun c3_ => ?_) (fun c3_ => ?_)
  · have c3 := z10n.mp c3_
    refine g_aload_n hX (pc := 9) dX2_quick_9 1 rfl ?_
    refine g_aload_n hX (pc := 10) dX2_quick_10 0 rfl ?_
    refine g_get hX (pc := 11) fcX2 1 rfl 4 (by decide) q163 rfl (v := .int nw) rfl dX2_quick_11 ?_
    refine g_callV hX (pc := 14) kX12_begin (mt_Request_begin E l a (nI (rC r)) (rK r) (nI (rY r)) (rA r) (rB r) (rRes r) (rSent r) (rAns r) (rTimes r) nw) q1445 fcX12 (sp_mem (i := 2) rfl) [2] rfl rfl rfl (Nat.le_of_ble_eq_true rfl) (Nat.le_of_ble_eq_true rfl) (Nat.le_of_ble_eq_true rfl) (by omega) (by omega) dX2_quick_14 (fun v w1 hp => ?_)
    obtain ⟨rfl, rfl⟩ := hp
    refine g_nrm (cs1 := [[(a, ob 10 [.int (nI (rC r)), .ref (aK E (rK r)), .int (nI (rY r)), .int (rA r), .int (rB r), .int (rRes r), .int (if (rSent r) = (-1) then nw else (rSent r)), .int (rAns r), .int ((rTimes r) + 1)])], wk, [(n, ob 1 [.ref lm, .ref lb, .ref lr, .int lo, .int nw])]]) (st1 := []) rfl rfl ?_
    refine g_aload_n hX (pc := 17) dX2_quick_17 1 rfl ?_
    obtain ⟨rn4, rk5, rl6, rs7, rst8, r09, r110, r211, r312, r413, r514, f015, h116, h217, h318, h419⟩ := hM.peekS
    refine g_aload_n hX (pc := 18) dX2_quick_18 2 rfl ?_
    refine g_getNm hX (pc := 19) fcX9 (sp_in 1 rfl h116) 5 (by decide) q938 rfl (v := .ref rst8) rfl dX2_quick_19 ?_
    refine g_getNm hX (pc := 22) fcX8 (sp_in 1 rfl h217) 0 (by decide) q896 rfl (v := .ref r09) rfl dX2_quick_22 ?_
    refine g_aload_n hX (pc := 25) dX2_quick_25 1 rfl ?_
    refine g_getN hX (pc := 26) fcX12 0 rfl 2 (by decide) q999 rfl (v := .int (nI (rY r))) rfl dX2_quick_26 ?_
    refine g_iald hX (pc := 29) (sp_in 1 rfl h318) (v := f015 (rY r)) (vp_in_nI (by omega) (by omega)) (by rw [nI_clamp (by omega)]) dX2_quick_29 ?_
    refine g_eqi (mS M 0 (rY r)) (h419 _ hky) ?_
    refine g_aload_n hX (pc := 30) dX2_quick_30 0 rfl ?_
    refine g_get hX (pc := 31) fcX2 2 rfl 4 (by decide) q163 rfl (v := .int nw) rfl dX2_quick_31 ?_
    refine g_callV hX (pc := 34) kX12_answer (mt_Request_answer E l a (nI (rC r)) (rK r) (nI (rY r)) (rA r) (rB r) (rRes r) (if (rSent r) = (-1) then nw else (rSent r)) (rAns r) ((rTimes r) + 1) (mS M 0 (rY r)) nw) q1170 fcX12 (sp_mem (i := 0) rfl) [0] rfl rfl rfl (Nat.le_of_ble_eq_true rfl) (Nat.le_of_ble_eq_true rfl) (Nat.le_of_ble_eq_true rfl) (by omega) (by omega) dX2_quick_34 (fun v w1 hp => ?_)
    obtain ⟨rfl, rfl⟩ := hp
    refine g_nrm (cs1 := [[(a, ob 10 [.int (nI (rC r)), .ref (aK E (rK r)), .int (nI (rY r)), .int (rA r), .int (rB r), .int (if (rAns r) = (-1) ∧ ¬ (mS M 0 (rY r)) = (-1) then (mS M 0 (rY r)) else (rRes r)), .int (if (rSent r) = (-1) then nw else (rSent r)), .int (if (rAns r) = (-1) ∧ ¬ (mS M 0 (rY r)) = (-1) then nw else (rAns r)), .int ((rTimes r) + 1)])], wk, [(n, ob 1 [.ref lm, .ref lb, .ref lr, .int lo, .int nw])]]) (st1 := []) rfl rfl ?_
    refine g_aload_n hX (pc := 37) dX2_quick_37 1 rfl ?_
    refine g_getN hX (pc := 38) fcX12 0 rfl 5 (by decide) q1006 rfl (v := .int (if (rAns r) = (-1) ∧ ¬ (mS M 0 (rY r)) = (-1) then (mS M 0 (rY r)) else (rRes r))) rfl dX2_quick_38 ?_
    refine g_pk [2, 1, 0] rfl ?_
    refine g_cs (cs1 := [[(n, ob 1 [.ref lm, .ref lb, .ref lr, .int lo, .int nw])], wk, [(a, ob 10 [.int (nI (rC r)), .ref (aK E (rK r)), .int (nI (rY r)), .int (rA r), .int (rB r), .int (if (rAns r) = (-1) ∧ ¬ (mS M 0 (rY r)) = (-1) then (mS M 0 (rY r)) else (rRes r)), .int (if (rSent r) = (-1) then nw else (rSent r)), .int (if (rAns r) = (-1) ∧ ¬ (mS M 0 (rY r)) = (-1) then nw else (rAns r)), .int ((rTimes r) + 1)])]]) rfl ?_
    refine g_iret hX (pc := 41) hR ?_ (by omega) (by omega) dX2_quick_41
    have e : rQuick M r nw = rAnswer (rBegin r nw) (mS M 0 (rY r)) nw := if_pos c3
    rw [e, if_pos c3]
    exact ⟨rfl, rfl⟩
  · have c3 := z10.mp c3_
    refine g_iconst hX (pc := 7) (v := (-1)) dX2_quick_7 (by decide) ?_
    refine g_pk [1, 0, 0] rfl ?_
    refine g_cs (cs1 := [[(n, ob 1 [.ref lm, .ref lb, .ref lr, .int lo, .int nw])], wk, [(a, ob 10 [.int (nI (rC r)), .ref (aK E (rK r)), .int (nI (rY r)), .int (rA r), .int (rB r), .int (rRes r), .int (rSent r), .int (rAns r), .int (rTimes r)])]]) rfl ?_
    refine g_iret hX (pc := 8) hR ?_ (by omega) (by omega) dX2_quick_8
    have e : rQuick M r nw = r := if_neg c3
    rw [e, if_neg c3]
    exact ⟨rfl, rfl⟩
