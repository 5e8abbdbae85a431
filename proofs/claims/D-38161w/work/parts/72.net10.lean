set_option maxHeartbeats 4000000 in
theorem mt_Request_copyM (E : EE) (l : Launch) (a : Nat) (r : PR) (w : va_W) (hm : ((a, rqC E r) ∈ w)) : Mt E l yX12_copy cX12_copy 2 (some (.object "Quorumspire$Request")) 2 1 9 37 [.ref a] [w] (fun (v_ : Option Value) (cs_ : List va_W) => ∃ (q : Nat), v_ = some (.ref q) ∧ cs_ = [[(q, ob 10 [.int (nI (rC r)), .ref (aK E (rK r)), .int (nI (rY r)), .int (rA r), .int (rB r), .int (rRes r), .int (rSent r), .int (rAns r), .int (rTimes r)])], w]) := by
  refine Mt.of (by decide) (Nat.le_of_ble_eq_true rfl) (fun X hX hR hin => ?_)
  refine g_lv1 (lv1 := [(0, .ref a)]) rfl ?_
  refine g_new hX (pc := 0) fcX12 q982 q983 q93 (fs := [.int 0, .null, .int 0, .int 0, .int 0, .int 0, .int 0, .int 0, .int 0]) (fun j hj => by match j, hj with | 0, _ => rfl | 1, _ => rfl | 2, _ => rfl | 3, _ => rfl | 4, _ => rfl | 5, _ => rfl | 6, _ => rfl | 7, _ => rfl | 8, _ => rfl | j + 9, h => exact absurd h (by omega)) (Nat.le_of_ble_eq_true rfl) (Nat.le_of_ble_eq_true rfl) dX12_copy_0 (fun q1 => ?_)
  refine g_dup hX (pc := 3) dX12_copy_3 rfl ?_
  refine g_aload_n hX (pc := 4) dX12_copy_4 0 rfl ?_
  refine g_getm hX (pc := 5) fcX12 (sp_in 1 rfl hm) 0 (by decide) q988 rfl (v := .int (nI (rC r))) rfl dX12_copy_5 ?_
  refine g_aload_n hX (pc := 8) dX12_copy_8 0 rfl ?_
  refine g_getm hX (pc := 9) fcX12 (sp_in 1 rfl hm) 1 (by decide) q992 rfl (v := .ref (aK E (rK r))) rfl dX12_copy_9 ?_
  refine g_aload_n hX (pc := 12) dX12_copy_12 0 rfl ?_
  refine g_getm hX (pc := 13) fcX12 (sp_in 1 rfl hm) 2 (by decide) q996 rfl (v := .int (nI (rY r))) rfl dX12_copy_13 ?_
  refine g_aload_n hX (pc := 16) dX12_copy_16 0 rfl ?_
  refine g_getm hX (pc := 17) fcX12 (sp_in 1 rfl hm) 3 (by decide) q1001 rfl (v := .int (rA r)) rfl dX12_copy_17 ?_
  refine g_aload_n hX (pc := 20) dX12_copy_20 0 rfl ?_
  refine g_getm hX (pc := 21) fcX12 (sp_in 1 rfl hm) 4 (by decide) q1003 rfl (v := .int (rB r)) rfl dX12_copy_21 ?_
  refine g_callI hX (pc := 24) kX12_init (mt_Request_init E l q1 (nI (rC r)) (aK E (rK r)) (nI (rY r)) (rA r) (rB r)) q984 [0] rfl rfl rfl (Nat.le_of_ble_eq_true rfl) (Nat.le_of_ble_eq_true rfl) (Nat.le_of_ble_eq_true rfl) (Nat.le_of_ble_eq_true rfl) (Nat.le_of_ble_eq_true rfl) dX12_copy_24 (fun v w1 hp => ?_)
  obtain ⟨rfl, rfl⟩ := hp
  refine g_nrm (cs1 := [[(q1, ob 10 [.int (nI (rC r)), .ref (aK E (rK r)), .int (nI (rY r)), .int (rA r), .int (rB r), .int (-1), .int (-1), .int (-1), .int 0])], w]) (st1 := [.ref q1]) rfl rfl ?_
  refine g_astore_n hX (pc := 27) (lv1 := [(1, .ref q1), (0, .ref a)]) dX12_copy_27 (by decide) rfl ?_
  refine g_aload_n hX (pc := 28) dX12_copy_28 0 rfl ?_
  refine g_aload_n hX (pc := 29) dX12_copy_29 1 rfl ?_
  refine g_getm hX (pc := 30) fcX12 (sp_in 1 rfl hm) 5 (by decide) q1004 rfl (v := .int (rRes r)) rfl dX12_copy_30 ?_
  refine g_put hX (pc := 33) fcX12 0 (fs1 := [.int (nI (rC r)), .ref (aK E (rK r)), .int (nI (rY r)), .int (rA r), .int (rB r), .int (rRes r), .int (-1), .int (-1), .int 0]) (cs1 := [[(q1, ob 10 [.int (nI (rC r)), .ref (aK E (rK r)), .int (nI (rY r)), .int (rA r), .int (rB r), .int (rRes r), .int (-1), .int (-1), .int 0])], w]) rfl 5 (by decide) q1004 rfl rfl rfl rfl (Nat.le_of_ble_eq_true rfl) rfl rfl dX12_copy_33 ?_
  refine g_aload_n hX (pc := 36) dX12_copy_36 0 rfl ?_
  refine g_aload_n hX (pc := 37) dX12_copy_37 1 rfl ?_
  refine g_getm hX (pc := 38) fcX12 (sp_in 1 rfl hm) 6 (by decide) q1008 rfl (v := .int (rSent r)) rfl dX12_copy_38 ?_
  refine g_put hX (pc := 41) fcX12 0 (fs1 := [.int (nI (rC r)), .ref (aK E (rK r)), .int (nI (rY r)), .int (rA r), .int (rB r), .int (rRes r), .int (rSent r), .int (-1), .int 0]) (cs1 := [[(q1, ob 10 [.int (nI (rC r)), .ref (aK E (rK r)), .int (nI (rY r)), .int (rA r), .int (rB r), .int (rRes r), .int (rSent r), .int (-1), .int 0])], w]) rfl 6 (by decide) q1008 rfl rfl rfl rfl (Nat.le_of_ble_eq_true rfl) rfl rfl dX12_copy_41 ?_
  refine g_aload_n hX (pc := 44) dX12_copy_44 0 rfl ?_
  refine g_aload_n hX (pc := 45) dX12_copy_45 1 rfl ?_
  refine g_getm hX (pc := 46) fcX12 (sp_in 1 rfl hm) 7 (by decide) q1011 rfl (v := .int (rAns r)) rfl dX12_copy_46 ?_
  refine g_put hX (pc := 49) fcX12 0 (fs1 := [.int (nI (rC r)), .ref (aK E (rK r)), .int (nI (rY r)), .int (rA r), .int (rB r), .int (rRes r), .int (rSent r), .int (rAns r), .int 0]) (cs1 := [[(q1, ob 10 [.int (nI (rC r)), .ref (aK E (rK r)), .int (nI (rY r)), .int (rA r), .int (rB r), .int (rRes r), .int (rSent r), .int (rAns r), .int 0])], w]) rfl 7 (by decide) q1011 rfl rfl rfl rfl (Nat.le_of_ble_eq_true rfl) rfl rfl dX12_copy_49 ?_
  refine g_aload_n hX (pc := 52) dX12_copy_52 0 rfl ?_
  refine g_aload_n hX (pc := 53) dX12_copy_53 1 rfl ?_
  refine g_getm hX (pc := 54) fcX12 (sp_in 1 rfl hm) 8 (by decide) q1014 rfl (v := .int (rTimes r)) rfl dX12_copy_54 ?_
  refine g_put hX (pc := 57) fcX12 0 (fs1 := [.int (nI (rC r)), .ref (aK E (rK r)), .int (nI (rY r)), .int (rA r), .int (rB r), .int (rRes r), .int (rSent r), .int (rAns r), .int (rTimes r)]) (cs1 := [[(q1, ob 10 [.int (nI (rC r)), .ref (aK E (rK r)), .int (nI (rY r)), .int (rA r), .int (rB r), .int (rRes r), .int (rSent r), .int (rAns r), .int (rTimes r)])], w]) rfl 8 (by decide) q1014 rfl rfl rfl rfl (Nat.le_of_ble_eq_true rfl) rfl rfl dX12_copy_57 ?_
  refine g_aload_n hX (pc := 60) dX12_copy_60 0 rfl ?_
  refine g_aret hX (pc := 61) hR (by first | exact Or.inl ⟨_, rfl⟩ | exact Or.inr ⟨_, rfl⟩) ?_ (Nat.le_of_ble_eq_true rfl) (Nat.le_of_ble_eq_true rfl) dX12_copy_61
  exact ⟨_, rfl, rfl⟩

set_option maxHeartbeats 4000000 in
theorem mt_Net_copy (E : EE) (l : Launch) (n : Nat) (lm : Nat) (lb : Nat) (lr : Nat) (P : PN) (wm : va_W) (wM : va_W) (wb : va_W) (wr : va_W) (wq : va_W) (fz : va_W) (b : Nat) (hML : ML E fz lm (nM P) wm wM) (hB : BL E fz lb (nB P) wb) (hRq : RL E lr (nR P) wr wq) (hP : (nOK b P)) (hb : (b ≤ 33)) : Mt E l yX2_copy cX2_copy 3 (some (.object "Quorumspire$Net")) 9 164 1743 214 [.ref n] [[(n, ob 1 [.ref lm, .ref lb, .ref lr, .int (nLo P), .int (nNow P)])], wm, wM, wb, wr, wq, fz] (fun (v_ : Option Value) (cs_ : List va_W) => ∃ (q : Nat) (lm2 : Nat) (lb2 : Nat) (lr2 : Nat) (w1 : va_W) (w2 : va_W) (w3 : va_W) (w4 : va_W) (w5 : va_W) (w6 : va_W), ML E fz lm (nM P) wm w6 ∧ ML E fz lm2 (nM P) w1 w2 ∧ BL E fz lb2 (nB P) w3 ∧ RL E lr2 (nR P) w4 w5 ∧ v_ = some (.ref q) ∧ cs_ = [[(q, ob 1 [.ref lm2, .ref lb2, .ref lr2, .int (nLo P), .int (nNow P)])], w1, w2, w3, w4, w5, [(n, ob 1 [.ref lm, .ref lb, .ref lr, .int (nLo P), .int (nNow P)])], wm, w6, wb, wr, wq, fz]) := by
  have p1 := hP.1
  have p2 := hP.2.1
  have p3 := hP.2.2.1.1
  refine Mt.of (by decide) (Nat.le_of_ble_eq_true rfl) (fun X hX hR hin => ?_)
  refine g_lv1 (lv1 := [(0, .ref n)]) rfl ?_
  refine g_new hX (pc := 0) fcX2 q819 q121 q70 (fs := [.null, .null, .null, .int 0, .int 0]) (fun j hj => by match j, hj with | 0, _ => rfl | 1, _ => rfl | 2, _ => rfl | 3, _ => rfl | 4, _ => rfl | j + 5, h => exact absurd h (by omega)) (by omega) (by omega) dX2_copy_0 (fun q1 => ?_)
  refine g_dup hX (pc := 3) dX2_copy_3 rfl ?_
  refine g_callI hX (pc := 4) kX2_init (mt_Net_init E l q1) q820 [0] rfl rfl rfl (Nat.le_of_ble_eq_true rfl) (Nat.le_of_ble_eq_true rfl) (Nat.le_of_ble_eq_true rfl) (by omega) (by omega) dX2_copy_4 (fun v w1 hp => ?_)
  obtain ⟨lm2, lb3, lr4, w15, w26, w37, h8, h9, h10, rfl, rfl⟩ := hp
  refine g_nrm (cs1 := [[(q1, ob 1 [.ref lm2, .ref lb3, .ref lr4, .int 0, .int 0])], w15, w26, w37, [(n, ob 1 [.ref lm, .ref lb, .ref lr, .int (nLo P), .int (nNow P)])], wm, wM, wb, wr, wq, fz]) (st1 := [.ref q1]) rfl rfl ?_
  refine g_astore_n hX (pc := 7) (lv1 := [(1, .ref q1), (0, .ref n)]) dX2_copy_7 (by decide) rfl ?_
  refine g_fl (cs1 := [[(q1, ob 1 [.ref lm2, .ref lb3, .ref lr4, .int 0, .int 0])], w15, w26, w37, [(n, ob 1 [.ref lm, .ref lb, .ref lr, .int (nLo P), .int (nNow P)])], wm, wM, wb, wr, wq, fz, (MS [])]) (by unfold MS; simp) ?_
  refine g_iconst hX (pc := 8) (v := 0) dX2_copy_8 (by decide) ?_
  refine g_eqi (nI 0) (nI_0.symm) ?_
  refine g_istore_n hX (pc := 9) (lv1 := [(2, .int (nI 0)), (1, .ref q1), (0, .ref n)]) dX2_copy_9 (by decide) rfl ?_
  have lp11 : ∀ (F1 : Nat) (i : Nat) (mm : List (Nat × PM × va_W)) (wMi : va_W) (wa : va_W), List.length (nM P) - i < F1 → (i ≤ (nM P).length) → (mm.map (fun x => x.2.1) = List.take i (nM P)) → (∀ x ∈ mm, IsMach E fz x.1 x.2.1 x.2.2) → ML E fz lm (nM P) wm wMi → ALc E lm2 (List.map Prod.fst mm) (fl_cap i) wa → G E l X [[(q1, ob 1 [.ref lm2, .ref lb3, .ref lr4, .int 0, .int 0])], wa, (MS mm), w26, w37, [(n, ob 1 [.ref lm, .ref lb, .ref lr, .int (nLo P), .int (nNow P)])], wm, wMi, wb, wr, wq, fz] (4 + 22 * i + fl_mc i) (14 + 230 * i + fl_ms i) 10 [(2, .int (nI i)), (1, .ref q1), (0, .ref n)] [] := by
    intro F1
    induction F1 with
    | zero =>
      intro i mm wMi wa hF hi hmm hmi hMLi hAa
      exact absurd hF (Nat.not_lt_zero _)
    | succ F1 ih1 =>
      intro i mm wMi wa hF hi hmm hmi hMLi hAa
      have hfi := fl_le5 (n := i) (by omega)
      refine g_iload_n hX (pc := 10) dX2_copy_10 0 rfl ?_
      refine g_aload_n hX (pc := 11) dX2_copy_11 2 rfl ?_
      refine g_get hX (pc := 12) fcX2 5 rfl 0 (by decide) q155 rfl (v := .ref lm) rfl dX2_copy_12 ?_
      obtain ⟨as12, hal13, hln14⟩ := ML.al hMLi
      obtain ⟨fs15, hm16⟩ := AL.head hal13
      refine g_callF hX (pc := 15) kfJ2_size (mt_AL_size E l lm as12 wm hal13) q189 fcJ2 (sp_in 6 rfl hm16) [6] rfl rfl rfl (Nat.le_of_ble_eq_true rfl) (Nat.le_of_ble_eq_true rfl) (Nat.le_of_ble_eq_true rfl) (by omega) (by omega) dX2_copy_15 (fun v w1 hp => ?_)
      obtain ⟨rfl, rfl⟩ := hp
      refine g_nrm (cs1 := [wm, [(q1, ob 1 [.ref lm2, .ref lb3, .ref lr4, .int 0, .int 0])], wa, (MS mm), w26, w37, [(n, ob 1 [.ref lm, .ref lb, .ref lr, .int (nLo P), .int (nNow P)])], wMi, wb, wr, wq, fz]) (st1 := [.int (nI (List.length as12)), .int (nI i)]) rfl rfl ?_
      refine g_eqi (nI (List.length (nM P))) (by rw [hln14]) ?_
      refine g_icmp_ge hX (pc := 20) (tgt := 55) dX2_copy_20 rfl (fun c17 => ?_) (fun c17 => ?_)
      · have d1 : i = (nM P).length := by
          have := (nI_leI (by omega) (by omega)).mp c17
          omega
        have hmm2 : mm.map (fun x => x.2.1) = nM P := by rw [hmm, d1, List.take_length]
        obtain ⟨gs, hgs, hAb, hgm⟩ := hB
        have hgl : gs.length = (nB P).length := by rw [← hgs, List.length_map]
        have hMLn := ML.mk hmm2 hAa hmi
        refine g_iconst hX (pc := 55) (v := 0) dX2_copy_55 (by decide) ?_
        refine g_eqi (nI 0) (nI_0.symm) ?_
        refine g_istore_n hX (pc := 56) (lv1 := [(2, .int (nI 0)), (1, .ref q1), (0, .ref n)]) dX2_copy_56 (by decide) rfl ?_
        have lp18 : ∀ (F2 : Nat) (j : Nat) (wc : va_W), List.length gs - j < F2 → (j ≤ List.length gs) → ALc E lb3 (List.take j (List.map Prod.fst gs)) (fl_cap j) wc → G E l X [[(q1, ob 1 [.ref lm2, .ref lb3, .ref lr4, .int 0, .int 0])], wa, (MS mm), wc, w37, [(n, ob 1 [.ref lm, .ref lb, .ref lr, .int (nLo P), .int (nNow P)])], wm, wMi, wb, wr, wq, fz] (115 + fl_mc j) (1174 + fl_ms j) 57 [(2, .int (nI j)), (1, .ref q1), (0, .ref n)] [] := by
          intro F2
          induction F2 with
          | zero =>
            intro j wc hF hj hAc
            exact absurd hF (Nat.not_lt_zero _)
          | succ F2 ih2 =>
            intro j wc hF hj hAc
            have hfj := fl_le30 (n := j) (by omega)
            refine g_iload_n hX (pc := 57) dX2_copy_57 0 rfl ?_
            refine g_aload_n hX (pc := 58) dX2_copy_58 2 rfl ?_
            refine g_get hX (pc := 59) fcX2 5 rfl 1 (by decide) q157 rfl (v := .ref lb) rfl dX2_copy_59 ?_
            obtain ⟨fs19, hm20⟩ := AL.head hAb
            refine g_callF hX (pc := 62) kfJ2_size (mt_AL_size E l lb (List.map Prod.fst gs) wb hAb) q189 fcJ2 (sp_in 8 rfl hm20) [8] rfl rfl rfl (Nat.le_of_ble_eq_true rfl) (Nat.le_of_ble_eq_true rfl) (Nat.le_of_ble_eq_true rfl) (by omega) (by omega) dX2_copy_62 (fun v w1 hp => ?_)
            obtain ⟨rfl, rfl⟩ := hp
            refine g_nrm (cs1 := [wb, [(q1, ob 1 [.ref lm2, .ref lb3, .ref lr4, .int 0, .int 0])], wa, (MS mm), wc, w37, [(n, ob 1 [.ref lm, .ref lb, .ref lr, .int (nLo P), .int (nNow P)])], wm, wMi, wr, wq, fz]) (st1 := [.int (nI (List.length (List.map Prod.fst gs))), .int (nI j)]) rfl rfl ?_
            refine g_icmp_ge hX (pc := 67) (tgt := 99) dX2_copy_67 rfl (fun c21 => ?_) (fun c21 => ?_)
            · have d2 : j = List.length gs := by
                rw [List.length_map] at c21
                have := (nI_leI (a := List.length gs) (b := j) (by omega) (by omega)).mp c21
                omega
              have hAc2 := hAc
              rw [d2, ← List.length_map (f := Prod.fst), List.take_length] at hAc2
              have hBn := BL.mk hgs hAc2 hgm
              obtain ⟨rr, hrr, hAr, rfl⟩ := hRq
              have hrl : rr.length = (nR P).length := by rw [← hrr, List.length_map]
              refine g_fl (cs1 := [wb, [(q1, ob 1 [.ref lm2, .ref lb3, .ref lr4, .int 0, .int 0])], wa, (MS mm), wc, w37, [(n, ob 1 [.ref lm, .ref lb, .ref lr, .int (nLo P), .int (nNow P)])], wm, wMi, wr, (RS E rr), fz, (RS E [])]) (by unfold RS; simp) ?_
              refine g_iconst hX (pc := 99) (v := 0) dX2_copy_99 (by decide) ?_
              refine g_eqi (nI 0) (nI_0.symm) ?_
              refine g_istore_n hX (pc := 100) (lv1 := [(2, .int (nI 0)), (1, .ref q1), (0, .ref n)]) dX2_copy_100 (by decide) rfl ?_
              have lp22 : ∀ (F3 : Nat) (k : Nat) (r2 : List (Nat × PR)) (wd : va_W), List.length rr - k < F3 → (k ≤ List.length rr) → (r2.map Prod.snd = List.take k (nR P)) → ALc E lr4 (List.map Prod.fst r2) (fl_cap k) wd → G E l X [[(q1, ob 1 [.ref lm2, .ref lb3, .ref lr4, .int 0, .int 0])], wa, (MS mm), wc, wd, (RS E r2), [(n, ob 1 [.ref lm, .ref lb, .ref lr, .int (nLo P), .int (nNow P)])], wm, wMi, wb, wr, (RS E rr), fz] (119 + k + fl_mc k) (1254 + 9 * k + fl_ms k) 101 [(2, .int (nI k)), (1, .ref q1), (0, .ref n)] [] := by
                intro F3
                induction F3 with
                | zero =>
                  intro k r2 wd hF hk hr2 hAd
                  exact absurd hF (Nat.not_lt_zero _)
                | succ F3 ih3 =>
                  intro k r2 wd hF hk hr2 hAd
                  have hfk := fl_le k
                  refine g_iload_n hX (pc := 101) dX2_copy_101 0 rfl ?_
                  refine g_aload_n hX (pc := 102) dX2_copy_102 2 rfl ?_
                  refine g_get hX (pc := 103) fcX2 6 rfl 2 (by decide) q159 rfl (v := .ref lr) rfl dX2_copy_103 ?_
                  obtain ⟨fs23, hm24⟩ := AL.head hAr
                  refine g_callF hX (pc := 106) kfJ2_size (mt_AL_size E l lr (List.map Prod.fst rr) wr hAr) q189 fcJ2 (sp_in 10 rfl hm24) [10] rfl rfl rfl (Nat.le_of_ble_eq_true rfl) (Nat.le_of_ble_eq_true rfl) (Nat.le_of_ble_eq_true rfl) (by omega) (by omega) dX2_copy_106 (fun v w1 hp => ?_)
                  obtain ⟨rfl, rfl⟩ := hp
                  refine g_nrm (cs1 := [wr, [(q1, ob 1 [.ref lm2, .ref lb3, .ref lr4, .int 0, .int 0])], wa, (MS mm), wc, wd, (RS E r2), [(n, ob 1 [.ref lm, .ref lb, .ref lr, .int (nLo P), .int (nNow P)])], wm, wMi, wb, (RS E rr), fz]) (st1 := [.int (nI (List.length (List.map Prod.fst rr))), .int (nI k)]) rfl rfl ?_
                  refine g_icmp_ge hX (pc := 111) (tgt := 146) dX2_copy_111 rfl (fun c25 => ?_) (fun c25 => ?_)
                  · have d3 : k = List.length rr := by
                      rw [List.length_map] at c25
                      have := (nI_leI (a := List.length rr) (b := k) (by omega) (by omega)).mp c25
                      omega
                    have hr3 : r2.map Prod.snd = nR P := by rw [hr2, d3, hrl, List.take_length]
                    have hRn := RL.mk hr3 hAd
                    refine g_aload_n hX (pc := 146) dX2_copy_146 1 rfl ?_
                    refine g_aload_n hX (pc := 147) dX2_copy_147 2 rfl ?_
                    refine g_get hX (pc := 148) fcX2 7 rfl 3 (by decide) q161 rfl (v := .int (nLo P)) rfl dX2_copy_148 ?_
                    refine g_put hX (pc := 151) fcX2 1 (fs1 := [.ref lm2, .ref lb3, .ref lr4, .int (nLo P), .int 0]) (cs1 := [wr, [(q1, ob 1 [.ref lm2, .ref lb3, .ref lr4, .int (nLo P), .int 0])], wa, (MS mm), wc, wd, (RS E r2), [(n, ob 1 [.ref lm, .ref lb, .ref lr, .int (nLo P), .int (nNow P)])], wm, wMi, wb, (RS E rr), fz]) rfl 3 (by decide) q161 rfl rfl rfl rfl (Nat.le_of_ble_eq_true rfl) rfl rfl dX2_copy_151 ?_
                    refine g_aload_n hX (pc := 154) dX2_copy_154 1 rfl ?_
                    refine g_aload_n hX (pc := 155) dX2_copy_155 2 rfl ?_
                    refine g_get hX (pc := 156) fcX2 7 rfl 4 (by decide) q163 rfl (v := .int (nNow P)) rfl dX2_copy_156 ?_
                    refine g_put hX (pc := 159) fcX2 1 (fs1 := [.ref lm2, .ref lb3, .ref lr4, .int (nLo P), .int (nNow P)]) (cs1 := [wr, [(q1, ob 1 [.ref lm2, .ref lb3, .ref lr4, .int (nLo P), .int (nNow P)])], wa, (MS mm), wc, wd, (RS E r2), [(n, ob 1 [.ref lm, .ref lb, .ref lr, .int (nLo P), .int (nNow P)])], wm, wMi, wb, (RS E rr), fz]) rfl 4 (by decide) q163 rfl rfl rfl rfl (Nat.le_of_ble_eq_true rfl) rfl rfl dX2_copy_159 ?_
                    refine g_aload_n hX (pc := 162) dX2_copy_162 1 rfl ?_
                    refine g_pk [1, 1, 1, 1, 1, 1, 1, 1, 1, 1, 0, 0, 0] rfl ?_
                    refine g_cs (cs1 := [[(q1, ob 1 [.ref lm2, .ref lb3, .ref lr4, .int (nLo P), .int (nNow P)])], wa, (MS mm), wc, wd, (RS E r2), [(n, ob 1 [.ref lm, .ref lb, .ref lr, .int (nLo P), .int (nNow P)])], wm, wMi, wb, wr, (RS E rr), fz]) rfl ?_
                    refine g_aret hX (pc := 163) hR (by first | exact Or.inl ⟨_, rfl⟩ | exact Or.inr ⟨_, rfl⟩) ?_ (by omega) (by omega) dX2_copy_163
                    exact ⟨_, _, _, _, _, _, _, _, _, _, hMLi, hMLn, hBn, hRn, rfl, rfl⟩
                  · have d3 : k < List.length rr := by
                      rw [List.length_map] at c25
                      have := mt (nI_leI (a := List.length rr) (b := k) (by omega) (by omega)).mpr c25
                      omega
                    obtain ⟨x, hx⟩ := get_ex d3
                    have hxk : (List.map Prod.fst rr)[k]? = some x.1 := by rw [List.getElem?_map, hx]; rfl
                    have hxr : (nR P)[k]? = some x.2 := by rw [← hrr, List.getElem?_map, hx]; rfl
                    have hxm : (x.1, rqC E x.2) ∈ RS E rr := List.mem_map.mpr ⟨x, List.mem_of_getElem? hx, rfl⟩
                    obtain ⟨hu1, hu2, hu3⟩ := fl_step (n := k) (by omega)
                    have hf3 := fl_le (k + 1)
                    have hlen3 : List.length (List.map Prod.fst r2) = k := by
                      have h := congrArg List.length hr2
                      rw [List.length_map, List.length_take] at h
                      rw [List.length_map]; omega
                    have e6 : al_mc (List.length (List.map Prod.fst r2)) (fl_cap k) = al_mc k (fl_cap k) := by rw [hlen3]
                    have e7 : al_ms (List.length (List.map Prod.fst r2)) (fl_cap k) = al_ms k (fl_cap k) := by rw [hlen3]
                    refine g_aload_n hX (pc := 114) dX2_copy_114 1 rfl ?_
                    refine g_get hX (pc := 115) fcX2 1 rfl 2 (by decide) q159 rfl (v := .ref lr4) rfl dX2_copy_115 ?_
                    refine g_aload_n hX (pc := 118) dX2_copy_118 2 rfl ?_
                    refine g_get hX (pc := 119) fcX2 7 rfl 2 (by decide) q159 rfl (v := .ref lr) rfl dX2_copy_119 ?_
                    refine g_iload_n hX (pc := 122) dX2_copy_122 0 rfl ?_
                    refine g_callF hX (pc := 123) kfJ2_get (mt_AL_get E l lr (List.map Prod.fst rr) wr k x.1 hAr (hxk)) q203 fcJ2 (sp_in 0 rfl hm24) [0] rfl rfl rfl (Nat.le_of_ble_eq_true rfl) (Nat.le_of_ble_eq_true rfl) (Nat.le_of_ble_eq_true rfl) (by omega) (by omega) dX2_copy_123 (fun v w1 hp => ?_)
                    obtain ⟨rfl, rfl⟩ := hp
                    refine g_nrm (cs1 := [wr, [(q1, ob 1 [.ref lm2, .ref lb3, .ref lr4, .int 0, .int 0])], wa, (MS mm), wc, wd, (RS E r2), [(n, ob 1 [.ref lm, .ref lb, .ref lr, .int (nLo P), .int (nNow P)])], wm, wMi, wb, (RS E rr), fz]) (st1 := [.ref x.1, .ref lr4]) rfl rfl ?_
                    refine g_cast hX (pc := 128) fcX12 (sp_in 11 rfl hxm) q726 dX2_copy_128 ?_
                    refine g_callV hX (pc := 131) kX12_copy (mt_Request_copyM E l x.1 x.2 (RS E rr) (hxm)) q978 fcX12 (sp_in 11 rfl hxm) [11] rfl rfl rfl (Nat.le_of_ble_eq_true rfl) (Nat.le_of_ble_eq_true rfl) (Nat.le_of_ble_eq_true rfl) (by omega) (by omega) dX2_copy_131 (fun v w1 hp => ?_)
                    obtain ⟨q26, rfl, rfl⟩ := hp
                    refine g_nrm (cs1 := [[(q26, ob 10 [.int (nI (rC x.2)), .ref (aK E (rK x.2)), .int (nI (rY x.2)), .int (rA x.2), .int (rB x.2), .int (rRes x.2), .int (rSent x.2), .int (rAns x.2), .int (rTimes x.2)])], RS E rr, wr, [(q1, ob 1 [.ref lm2, .ref lb3, .ref lr4, .int 0, .int 0])], wa, (MS mm), wc, wd, (RS E r2), [(n, ob 1 [.ref lm, .ref lb, .ref lr, .int (nLo P), .int (nNow P)])], wm, wMi, wb, fz]) (st1 := [.ref q26, .ref lr4]) rfl rfl ?_
                    refine g_pk [8, 0] rfl ?_
                    refine g_cs (cs1 := [(RS E r2), [(q26, ob 10 [.int (nI (rC x.2)), .ref (aK E (rK x.2)), .int (nI (rY x.2)), .int (rA x.2), .int (rB x.2), .int (rRes x.2), .int (rSent x.2), .int (rAns x.2), .int (rTimes x.2)])], RS E rr, wr, [(q1, ob 1 [.ref lm2, .ref lb3, .ref lr4, .int 0, .int 0])], wa, (MS mm), wc, wd, [(n, ob 1 [.ref lm, .ref lb, .ref lr, .int (nLo P), .int (nNow P)])], wm, wMi, wb, fz]) rfl ?_
                    refine g_fl (cs1 := [((RS E r2) ++ ([(q26, ob 10 [.int (nI (rC x.2)), .ref (aK E (rK x.2)), .int (nI (rY x.2)), .int (rA x.2), .int (rB x.2), .int (rRes x.2), .int (rSent x.2), .int (rAns x.2), .int (rTimes x.2)])])), RS E rr, wr, [(q1, ob 1 [.ref lm2, .ref lb3, .ref lr4, .int 0, .int 0])], wa, (MS mm), wc, wd, [(n, ob 1 [.ref lm, .ref lb, .ref lr, .int (nLo P), .int (nNow P)])], wm, wMi, wb, fz]) (by simp only [List.flatten_cons, List.flatten_nil, List.cons_append, List.append_assoc, List.nil_append, List.append_nil]) ?_
                    refine g_cs (cs1 := [(RS E (r2 ++ [(mk2 q26 x.2)])), RS E rr, wr, [(q1, ob 1 [.ref lm2, .ref lb3, .ref lr4, .int 0, .int 0])], wa, (MS mm), wc, wd, [(n, ob 1 [.ref lm, .ref lb, .ref lr, .int (nLo P), .int (nNow P)])], wm, wMi, wb, fz]) (by rw [rs_snoc]) ?_
                    have hok4 := rs_ok2 (E := E) (rr := r2) (x := (mk2 q26 x.2))
                    obtain ⟨fs27, hm28⟩ := AL.head hAd.al
                    refine g_callF hX (pc := 134) kfJ2_add_2 (mt_ALc_add E l lr4 (List.map Prod.fst r2) (fl_cap k) wd q26 (RS E (r2 ++ [mk2 q26 x.2])) hAd (by have := fl_le k; omega) (hok4.1) (hok4.2)) q976 fcJ2 (sp_in 7 rfl hm28) [7, 0] rfl rfl rfl (Nat.le_of_ble_eq_true rfl) (Nat.le_of_ble_eq_true rfl) (Nat.le_of_ble_eq_true rfl) (by omega) (by omega) dX2_copy_134 (fun v w1 hp => ?_)
                    obtain ⟨w129, h30, rfl, rfl⟩ := hp
                    refine g_nrm (cs1 := [w129, RS E (r2 ++ [mk2 q26 x.2]), RS E rr, wr, [(q1, ob 1 [.ref lm2, .ref lb3, .ref lr4, .int 0, .int 0])], wa, (MS mm), wc, [(n, ob 1 [.ref lm, .ref lb, .ref lr, .int (nLo P), .int (nNow P)])], wm, wMi, wb, fz]) (st1 := [.int 1]) rfl rfl ?_
                    refine g_pop hX (pc := 139) dX2_copy_139 rfl ?_
                    refine g_iinc hX (pc := 140) (v := nI (k + 1)) (lv1 := [(2, .int (nI (k + 1))), (1, .ref q1), (0, .ref n)]) dX2_copy_140 0 rfl (nI_1 _) (by decide) rfl ?_
                    refine g_goto hX (pc := 143) (tgt := 101) dX2_copy_143 rfl ?_
                    refine g_pk [4, 4, 4, 4, 0, 0, 2, 2, 2, 2, 1, 0, 0] rfl ?_
                    refine g_cs (cs1 := [[(q1, ob 1 [.ref lm2, .ref lb3, .ref lr4, .int 0, .int 0])], wa, (MS mm), wc, w129, RS E (r2 ++ [mk2 q26 x.2]), [(n, ob 1 [.ref lm, .ref lb, .ref lr, .int (nLo P), .int (nNow P)])], wm, wMi, wb, wr, RS E rr, fz]) rfl ?_
                    refine g_widen (kc1 := 119 + (k + 1) + fl_mc (k + 1)) (ks1 := 1254 + 9 * (k + 1) + fl_ms (k + 1)) (by omega) (by omega) ?_
                    exact ih3 (k + 1) (r2 ++ [mk2 q26 x.2]) w129 (by omega) (by omega) (by rw [List.map_append, hr2]; exact take_snoc hxr) (by
  have hx := h30
  rw [hlen3, hu1] at hx
  rw [List.map_append]
  exact hx)
              refine g_pk [1, 1, 1, 1, 1, 7, 1, 1, 1, 0, 0, 0, 0] rfl ?_
              refine g_cs (cs1 := [[(q1, ob 1 [.ref lm2, .ref lb3, .ref lr4, .int 0, .int 0])], wa, (MS mm), wc, w37, (RS E []), [(n, ob 1 [.ref lm, .ref lb, .ref lr, .int (nLo P), .int (nNow P)])], wm, wMi, wb, wr, (RS E rr), fz]) rfl ?_
              refine g_widen (kc1 := 119 + 0 + fl_mc 0) (ks1 := 1254 + 9 * 0 + fl_ms 0) (by omega) (by omega) ?_
              exact lp22 ((List.length rr - 0) + 1) 0 [] w37 (Nat.lt_succ_self _) (Nat.zero_le _) (rfl) (h10)
            · have d2 : j < List.length gs := by
                rw [List.length_map] at c21
                have := mt (nI_leI (a := List.length gs) (b := j) (by omega) (by omega)).mpr c21
                omega
              obtain ⟨g, hg⟩ := get_ex d2
              have hgi := hgm g (List.mem_of_getElem? hg)
              have hgk : (List.map Prod.fst gs)[j]? = some g.1 := by rw [List.getElem?_map, hg]; rfl
              obtain ⟨ra, sp, ges, f, hg1, -⟩ := MsgIn.out hgi
              obtain ⟨ht1, ht2, ht3⟩ := fl_step (n := j) (by omega)
              have hf2 := fl_le30 (n := j + 1) (by omega)
              have hlen2 : List.length (List.take j (List.map Prod.fst gs)) = j := by rw [List.length_take, List.length_map]; omega
              have e4 : al_mc (List.length (List.take j (List.map Prod.fst gs))) (fl_cap j) = al_mc j (fl_cap j) := by rw [hlen2]
              have e5 : al_ms (List.length (List.take j (List.map Prod.fst gs))) (fl_cap j) = al_ms j (fl_cap j) := by rw [hlen2]
              refine g_aload_n hX (pc := 70) dX2_copy_70 1 rfl ?_
              refine g_get hX (pc := 71) fcX2 1 rfl 1 (by decide) q157 rfl (v := .ref lb3) rfl dX2_copy_71 ?_
              refine g_aload_n hX (pc := 74) dX2_copy_74 2 rfl ?_
              refine g_get hX (pc := 75) fcX2 6 rfl 1 (by decide) q157 rfl (v := .ref lb) rfl dX2_copy_75 ?_
              refine g_iload_n hX (pc := 78) dX2_copy_78 0 rfl ?_
              refine g_callF hX (pc := 79) kfJ2_get (mt_AL_get E l lb (List.map Prod.fst gs) wb j g.1 hAb (hgk)) q203 fcJ2 (sp_in 0 rfl hm20) [0] rfl rfl rfl (Nat.le_of_ble_eq_true rfl) (Nat.le_of_ble_eq_true rfl) (Nat.le_of_ble_eq_true rfl) (by omega) (by omega) dX2_copy_79 (fun v w1 hp => ?_)
              obtain ⟨rfl, rfl⟩ := hp
              refine g_nrm (cs1 := [wb, [(q1, ob 1 [.ref lm2, .ref lb3, .ref lr4, .int 0, .int 0])], wa, (MS mm), wc, w37, [(n, ob 1 [.ref lm, .ref lb, .ref lr, .int (nLo P), .int (nNow P)])], wm, wMi, wr, wq, fz]) (st1 := [.ref g.1, .ref lb3]) rfl rfl ?_
              refine g_cast hX (pc := 84) fcX13 (sp_in 11 rfl hg1) q977 dX2_copy_84 ?_
              obtain ⟨fs31, hm32⟩ := AL.head hAc.al
              refine g_callF hX (pc := 87) kfJ2_add_2 (mt_ALc_add E l lb3 (List.take j (List.map Prod.fst gs)) (fl_cap j) wc g.1 fz hAc (by have := fl_le j; omega) (msg_ok1 hgi) (fun y hy => msg_ok hgm y (List.mem_of_mem_take hy))) q976 fcJ2 (sp_in 4 rfl hm32) [4, 10] rfl rfl rfl (Nat.le_of_ble_eq_true rfl) (Nat.le_of_ble_eq_true rfl) (Nat.le_of_ble_eq_true rfl) (by omega) (by omega) dX2_copy_87 (fun v w1 hp => ?_)
              obtain ⟨w133, h34, rfl, rfl⟩ := hp
              refine g_nrm (cs1 := [w133, fz, wb, [(q1, ob 1 [.ref lm2, .ref lb3, .ref lr4, .int 0, .int 0])], wa, (MS mm), w37, [(n, ob 1 [.ref lm, .ref lb, .ref lr, .int (nLo P), .int (nNow P)])], wm, wMi, wr, wq]) (st1 := [.int 1]) rfl rfl ?_
              refine g_pop hX (pc := 92) dX2_copy_92 rfl ?_
              refine g_iinc hX (pc := 93) (v := nI (j + 1)) (lv1 := [(2, .int (nI (j + 1))), (1, .ref q1), (0, .ref n)]) dX2_copy_93 0 rfl (nI_1 _) (by decide) rfl ?_
              refine g_goto hX (pc := 96) (tgt := 57) dX2_copy_96 rfl ?_
              refine g_pk [3, 3, 3, 0, 2, 2, 2, 2, 1, 1, 1, 0] rfl ?_
              refine g_cs (cs1 := [[(q1, ob 1 [.ref lm2, .ref lb3, .ref lr4, .int 0, .int 0])], wa, (MS mm), w133, w37, [(n, ob 1 [.ref lm, .ref lb, .ref lr, .int (nLo P), .int (nNow P)])], wm, wMi, wb, wr, wq, fz]) rfl ?_
              refine g_widen (kc1 := 115 + fl_mc (j + 1)) (ks1 := 1174 + fl_ms (j + 1)) (by omega) (by omega) ?_
              exact ih2 (j + 1) w133 (by omega) (by omega) (by
  have hx := h34
  rw [take_snoc hgk, hlen2, ht1] at hx
  exact hx)
        refine g_pk [1, 1, 1, 1, 1, 1, 0, 0, 0, 0, 0, 0] rfl ?_
        refine g_cs (cs1 := [[(q1, ob 1 [.ref lm2, .ref lb3, .ref lr4, .int 0, .int 0])], wa, (MS mm), w26, w37, [(n, ob 1 [.ref lm, .ref lb, .ref lr, .int (nLo P), .int (nNow P)])], wm, wMi, wb, wr, wq, fz]) rfl ?_
        refine g_widen (kc1 := 115 + fl_mc 0) (ks1 := 1174 + fl_ms 0) (by omega) (by omega) ?_
        exact lp18 ((List.length gs - 0) + 1) 0 w26 (Nat.lt_succ_self _) (Nat.zero_le _) (h9)
      · have d1 : i < (nM P).length := by
          have := mt (nI_leI (by omega) (by omega)).mpr c17
          omega
        obtain ⟨M, hgM⟩ := get_ex d1
        obtain ⟨m1, m2, m3⟩ := hP.2.2.2.1 _ M hgM
        obtain ⟨mas, m, wk, pre, post, hAm, hml, hmk, hMk, rfl, hMc⟩ := ml_focus hMLi hgM
        obtain ⟨hs1, hs2, hs3⟩ := fl_step (n := i) (by omega)
        have hf1 := fl_le5 (n := i + 1) (by omega)
        have hlen : List.length (List.map Prod.fst mm) = i := by
          have h := congrArg List.length hmm
          rw [List.length_map, List.length_take] at h
          rw [List.length_map]; omega
        have e2 : al_mc (List.length (List.map Prod.fst mm)) (fl_cap i) = al_mc i (fl_cap i) := by rw [hlen]
        have e3 : al_ms (List.length (List.map Prod.fst mm)) (fl_cap i) = al_ms i (fl_cap i) := by rw [hlen]
        refine g_fl (cs1 := [wm, [(q1, ob 1 [.ref lm2, .ref lb3, .ref lr4, .int 0, .int 0])], wa, (MS mm), w26, w37, [(n, ob 1 [.ref lm, .ref lb, .ref lr, .int (nLo P), .int (nNow P)])], pre, wk, post, wb, wr, wq, fz]) (by simp only [List.flatten_cons, List.flatten_nil, List.cons_append, List.append_assoc, List.nil_append, List.append_nil]) ?_
        refine g_aload_n hX (pc := 23) dX2_copy_23 1 rfl ?_
        refine g_get hX (pc := 24) fcX2 1 rfl 0 (by decide) q155 rfl (v := .ref lm2) rfl dX2_copy_24 ?_
        refine g_aload_n hX (pc := 27) dX2_copy_27 2 rfl ?_
        refine g_get hX (pc := 28) fcX2 6 rfl 0 (by decide) q155 rfl (v := .ref lm) rfl dX2_copy_28 ?_
        refine g_iload_n hX (pc := 31) dX2_copy_31 0 rfl ?_
        refine g_callF hX (pc := 32) kfJ2_get (mt_AL_get E l lm mas wm i m hAm (hmk)) q203 fcJ2 (sp_in 0 rfl hm16) [0] rfl rfl rfl (Nat.le_of_ble_eq_true rfl) (Nat.le_of_ble_eq_true rfl) (Nat.le_of_ble_eq_true rfl) (by omega) (by omega) dX2_copy_32 (fun v w1 hp => ?_)
        obtain ⟨rfl, rfl⟩ := hp
        refine g_nrm (cs1 := [wm, [(q1, ob 1 [.ref lm2, .ref lb3, .ref lr4, .int 0, .int 0])], wa, (MS mm), w26, w37, [(n, ob 1 [.ref lm, .ref lb, .ref lr, .int (nLo P), .int (nNow P)])], pre, wk, post, wb, wr, wq, fz]) (st1 := [.ref m, .ref lm2]) rfl rfl ?_
        obtain ⟨fs35, hm36⟩ := IsMach.head hMk
        refine g_cast hX (pc := 37) fcX9 (sp_in 8 rfl hm36) q221 dX2_copy_37 ?_
        refine g_callV hX (pc := 40) kX9_copy (mt_Machine_copy E l m M wk fz hMk (by have := m1.2.1; omega) (by have := m1.2.1; omega)) q821 fcX9 (sp_in 8 rfl hm36) [8, 12] rfl rfl rfl (Nat.le_of_ble_eq_true rfl) (Nat.le_of_ble_eq_true rfl) (Nat.le_of_ble_eq_true rfl) (by omega) (by omega) dX2_copy_40 (fun v w1 hp => ?_)
        obtain ⟨q37, w138, w239, h40, h41, rfl, rfl⟩ := hp
        refine g_nrm (cs1 := [w138, w239, fz, wm, [(q1, ob 1 [.ref lm2, .ref lb3, .ref lr4, .int 0, .int 0])], wa, (MS mm), w26, w37, [(n, ob 1 [.ref lm, .ref lb, .ref lr, .int (nLo P), .int (nNow P)])], pre, post, wb, wr, wq]) (st1 := [.ref q37, .ref lm2]) rfl rfl ?_
        refine g_pk [10, 1, 9] rfl ?_
        refine g_cs (cs1 := [pre, w239, post, w138, fz, wm, [(q1, ob 1 [.ref lm2, .ref lb3, .ref lr4, .int 0, .int 0])], wa, (MS mm), w26, w37, [(n, ob 1 [.ref lm, .ref lb, .ref lr, .int (nLo P), .int (nNow P)])], wb, wr, wq]) rfl ?_
        refine g_fl (cs1 := [(pre ++ (w239 ++ (post))), w138, fz, wm, [(q1, ob 1 [.ref lm2, .ref lb3, .ref lr4, .int 0, .int 0])], wa, (MS mm), w26, w37, [(n, ob 1 [.ref lm, .ref lb, .ref lr, .int (nLo P), .int (nNow P)])], wb, wr, wq]) (by simp only [List.flatten_cons, List.flatten_nil, List.cons_append, List.append_assoc, List.nil_append, List.append_nil]) ?_
        have hML42 : ML E fz lm (nM P) wm (pre ++ (w239 ++ (post))) := by have hh := hMc _ _ _ Ext.rfl' h41; rw [set_self hgM] at hh; exact hh
        generalize (pre ++ (w239 ++ (post))) = wM43 at hML42 ⊢
        refine g_pk [6, 1] rfl ?_
        refine g_cs (cs1 := [(MS mm), w138, wM43, fz, wm, [(q1, ob 1 [.ref lm2, .ref lb3, .ref lr4, .int 0, .int 0])], wa, w26, w37, [(n, ob 1 [.ref lm, .ref lb, .ref lr, .int (nLo P), .int (nNow P)])], wb, wr, wq]) rfl ?_
        refine g_fl (cs1 := [((MS mm) ++ (w138)), wM43, fz, wm, [(q1, ob 1 [.ref lm2, .ref lb3, .ref lr4, .int 0, .int 0])], wa, w26, w37, [(n, ob 1 [.ref lm, .ref lb, .ref lr, .int (nLo P), .int (nNow P)])], wb, wr, wq]) (by simp only [List.flatten_cons, List.flatten_nil, List.cons_append, List.append_assoc, List.nil_append, List.append_nil]) ?_
        refine g_cs (cs1 := [(MS (mm ++ [(mk3 q37 M w138)])), wM43, fz, wm, [(q1, ob 1 [.ref lm2, .ref lb3, .ref lr4, .int 0, .int 0])], wa, w26, w37, [(n, ob 1 [.ref lm, .ref lb, .ref lr, .int (nLo P), .int (nNow P)])], wb, wr, wq]) (by rw [ms_snoc]) ?_
        have hok3 := ms_ok2 hmi (x := (mk3 q37 M w138)) h40
        obtain ⟨fs44, hm45⟩ := AL.head hAa.al
        refine g_callF hX (pc := 43) kfJ2_add_2 (mt_ALc_add E l lm2 (List.map Prod.fst mm) (fl_cap i) wa q37 (MS (mm ++ [mk3 q37 M w138])) hAa (by have := fl_le i; omega) (hok3.1) (hok3.2.1)) q976 fcJ2 (sp_in 5 rfl hm45) [5, 0] rfl rfl rfl (Nat.le_of_ble_eq_true rfl) (Nat.le_of_ble_eq_true rfl) (Nat.le_of_ble_eq_true rfl) (by omega) (by omega) dX2_copy_43 (fun v w1 hp => ?_)
        obtain ⟨w146, h47, rfl, rfl⟩ := hp
        refine g_nrm (cs1 := [w146, MS (mm ++ [mk3 q37 M w138]), wM43, fz, wm, [(q1, ob 1 [.ref lm2, .ref lb3, .ref lr4, .int 0, .int 0])], w26, w37, [(n, ob 1 [.ref lm, .ref lb, .ref lr, .int (nLo P), .int (nNow P)])], wb, wr, wq]) (st1 := [.int 1]) rfl rfl ?_
        refine g_pop hX (pc := 48) dX2_copy_48 rfl ?_
        refine g_iinc hX (pc := 49) (v := nI (i + 1)) (lv1 := [(2, .int (nI (i + 1))), (1, .ref q1), (0, .ref n)]) dX2_copy_49 0 rfl (nI_1 _) (by decide) rfl ?_
        refine g_goto hX (pc := 52) (tgt := 10) dX2_copy_52 rfl ?_
        refine g_pk [5, 0, 0, 3, 3, 3, 2, 0, 1, 1, 1, 0] rfl ?_
        refine g_cs (cs1 := [[(q1, ob 1 [.ref lm2, .ref lb3, .ref lr4, .int 0, .int 0])], w146, MS (mm ++ [mk3 q37 M w138]), w26, w37, [(n, ob 1 [.ref lm, .ref lb, .ref lr, .int (nLo P), .int (nNow P)])], wm, wM43, wb, wr, wq, fz]) rfl ?_
        refine g_widen (kc1 := 4 + 22 * (i + 1) + fl_mc (i + 1)) (ks1 := 14 + 230 * (i + 1) + fl_ms (i + 1)) (by omega) (by omega) ?_
        exact ih1 (i + 1) (mm ++ [mk3 q37 M w138]) wM43 w146 (by omega) (by omega) (by rw [List.map_append, hmm]; exact take_snoc hgM) (hok3.2.2) hML42 (by
  have hx := h47
  rw [hlen, hs1] at hx
  rw [List.map_append]
  exact hx)
  refine g_pk [0, 0, 9, 0, 0, 0, 0, 0, 0, 0, 0, 0] rfl ?_
  refine g_cs (cs1 := [[(q1, ob 1 [.ref lm2, .ref lb3, .ref lr4, .int 0, .int 0])], w15, (MS []), w26, w37, [(n, ob 1 [.ref lm, .ref lb, .ref lr, .int (nLo P), .int (nNow P)])], wm, wM, wb, wr, wq, fz]) rfl ?_
  refine g_widen (kc1 := 4 + 22 * 0 + fl_mc 0) (ks1 := 14 + 230 * 0 + fl_ms 0) (by omega) (by omega) ?_
  exact lp11 ((List.length (nM P) - 0) + 1) 0 [] wM w15 (Nat.lt_succ_self _) (Nat.zero_le _) (rfl) (fun x hx => absurd hx List.not_mem_nil) hML (h8)
