set_option maxHeartbeats 4000000 in
theorem mt_Q_ofMachine (E : EE) (l : Launch) (o : Nat) (n : Nat) (lm : Nat) (lb : Nat) (lr : Nat) (P : PN) (wm : va_W) (wM : va_W) (fz : va_W) (k : Nat) (wh : Nat) (hML : ML E fz lm (nM P) wm wM) (h5 : ((nM P).length ≤ 5)) (hk : (k < (nM P).length)) (hw : (wh < 9)) : Mt E l yX1_ofMachine cX1_ofMachine 3 (some .int) 6 0 0 109 [.ref o, .int (nI k), .int (nI wh)] [[(o, ob 0 [.ref n])], [(n, ob 1 [.ref lm, .ref lb, .ref lr, .int (nLo P), .int (nNow P)])], wm, wM] (fun (v_ : Option Value) (cs_ : List va_W) => v_ = some (.int (oMach (mAt P k) wh)) ∧ cs_ = [[(o, ob 0 [.ref n])], [(n, ob 1 [.ref lm, .ref lb, .ref lr, .int (nLo P), .int (nNow P)])], wm, wM]) := by
  refine Mt.of (by decide) (Nat.le_of_ble_eq_true rfl) (fun X hX hR hin => ?_)
  refine g_lv1 (lv1 := [(0, .ref o), (1, .int (nI k)), (2, .int (nI wh))]) rfl ?_
  refine g_aload_n hX (pc := 0) dX1_ofMachine_0 0 rfl ?_
  refine g_iload_n hX (pc := 1) dX1_ofMachine_1 1 rfl ?_
  obtain ⟨M7, hgM7⟩ := get_ex (l := (nM P)) (i := k) (hk)
  obtain ⟨mas1, m2, hAm3, hml4, hmk5, hMI6⟩ := ML.at hML hgM7
  obtain ⟨rn8, rk9, rl10, rs11, rst12, la13, sp14, lb15, sp216, fn17, fk18, m019, arr20, m121, arr122, h123, h224, h325, h426, h527, h628, h729, hn30⟩ := hMI6.peek
  refine g_callV hX (pc := 2) kX1_machineAt (mt_Q_machineAtI E l o n lm lb lr (nLo P) (nNow P) mas1 wm k m2 M7 fz wM hAm3 hMI6 (hmk5) (by omega)) q1360 fcX1 (sp_mem (i := 0) rfl) [0, 0, 0, 0] rfl rfl rfl (Nat.le_of_ble_eq_true rfl) (Nat.le_of_ble_eq_true rfl) (Nat.le_of_ble_eq_true rfl) (by omega) (by omega) dX1_ofMachine_2 (fun v w1 hp => ?_)
  obtain ⟨rfl, rfl⟩ := hp
  refine g_nrm (cs1 := [[(o, ob 0 [.ref n])], [(n, ob 1 [.ref lm, .ref lb, .ref lr, .int (nLo P), .int (nNow P)])], wm, wM]) (st1 := [.ref m2]) rfl rfl ?_
  refine g_pop hX (pc := 5) dX1_ofMachine_5 rfl ?_
  refine g_iload_n hX (pc := 6) dX1_ofMachine_6 2 rfl ?_
  refine g_iconst hX (pc := 7) (v := 0) dX1_ofMachine_7 (by decide) ?_
  refine g_bipush hX (pc := 8) (v := 8) dX1_ofMachine_8 (by decide) ?_
  refine g_callS hX (pc := 10) kX1_mustBeIn (mt_mustBeIn E l (nI wh) 0 8 (show ¬ nI wh < nI 0 from nI_nlt (by omega) (by omega)) (show ¬ nI 8 < nI wh from nI_nlt (by omega) (by omega))) q1308 [] rfl rfl rfl (Nat.le_of_ble_eq_true rfl) (Nat.le_of_ble_eq_true rfl) (Nat.le_of_ble_eq_true rfl) (by omega) (by omega) dX1_ofMachine_10 (fun v w1 hp => ?_)
  obtain ⟨rfl, rfl⟩ := hp
  refine g_nrm (cs1 := [[(o, ob 0 [.ref n])], [(n, ob 1 [.ref lm, .ref lb, .ref lr, .int (nLo P), .int (nNow P)])], wm, wM]) (st1 := []) rfl rfl ?_
  refine g_aload_n hX (pc := 13) dX1_ofMachine_13 0 rfl ?_
  refine g_get hX (pc := 14) fcX1 0 rfl 0 (by decide) q176 rfl (v := .ref n) rfl dX1_ofMachine_14 ?_
  refine g_iload_n hX (pc := 17) dX1_ofMachine_17 1 rfl ?_
  refine g_iload_n hX (pc := 18) dX1_ofMachine_18 2 rfl ?_
  refine g_callV hX (pc := 19) kX2_ofMachine (mt_Net_ofMachine E l n lm lb lr P wm wM fz k wh hML (hk) (hw)) q776 fcX2 (sp_mem (i := 1) rfl) [1, 1, 1] rfl rfl rfl (Nat.le_of_ble_eq_true rfl) (Nat.le_of_ble_eq_true rfl) (Nat.le_of_ble_eq_true rfl) (by omega) (by omega) dX1_ofMachine_19 (fun v w1 hp => ?_)
  obtain ⟨rfl, rfl⟩ := hp
  refine g_nrm (cs1 := [[(n, ob 1 [.ref lm, .ref lb, .ref lr, .int (nLo P), .int (nNow P)])], wm, wM, [(o, ob 0 [.ref n])]]) (st1 := [.int (oMach (mAt P k) wh)]) rfl rfl ?_
  refine g_pk [3, 0, 0, 0] rfl ?_
  refine g_cs (cs1 := [[(o, ob 0 [.ref n])], [(n, ob 1 [.ref lm, .ref lb, .ref lr, .int (nLo P), .int (nNow P)])], wm, wM]) rfl ?_
  refine g_iret hX (pc := 22) hR ?_ (by omega) (by omega) dX1_ofMachine_22
  exact ⟨rfl, rfl⟩

set_option maxHeartbeats 4000000 in
theorem mt_Log_hasM (E : EE) (l : Launch) (a : Nat) (la : Nat) (t : Int32) (v : Int32) (b : Nat) (bt : Int32) (sp : Nat) (m0 : Int32) (arr : Nat) (k : Nat) (w : va_W) (i : Int32) (h1 : ((a, ob 9 [.ref la, .int t, .int v, .int (nI b), .int bt, .ref sp]) ∈ w)) (h2 : ((la, ob 15 [.int m0, .ref arr, .int (nI k)]) ∈ w)) : Mt E l yX10_has cX10_has 2 (some .boolean) 3 0 0 41 [.ref a, .int i] [w] (fun (v_ : Option Value) (cs_ : List va_W) => v_ = some (.int (if nI b < i ∧ i ≤ nI (b + k) then 1 else 0)) ∧ cs_ = [w]) := by
  refine Mt.of (by decide) (Nat.le_of_ble_eq_true rfl) (fun X hX hR hin => ?_)
  refine g_lv1 (lv1 := [(0, .ref a), (1, .int i)]) rfl ?_
  refine g_iload_n hX (pc := 0) dX10_has_0 1 rfl ?_
  refine g_aload_n hX (pc := 1) dX10_has_1 0 rfl ?_
  refine g_getm hX (pc := 2) fcX10 (sp_in 0 rfl h1) 3 (by decide) q850 rfl (v := .int (nI b)) rfl dX10_has_2 ?_
  refine g_icmp_le hX (pc := 5) (tgt := 20) dX10_has_5 rfl (fun c1 => ?_) (fun c1 => ?_)
  · refine g_iconst hX (pc := 20) (v := 0) dX10_has_20 (by decide) ?_
    refine g_zret hX (pc := 21) hR rfl ?_ (Nat.le_of_ble_eq_true rfl) (Nat.le_of_ble_eq_true rfl) dX10_has_21
    refine ⟨?_, rfl⟩
    rw [if_neg (fun z => absurd z.1 (Int32.not_lt.mpr c1))]
  · refine g_iload_n hX (pc := 8) dX10_has_8 1 rfl ?_
    refine g_aload_n hX (pc := 9) dX10_has_9 0 rfl ?_
    refine g_callV hX (pc := 10) kX10_last (mt_Log_lastM E l a la t v b bt sp m0 arr k w (h1) (h2)) q1234 fcX10 (sp_in 0 rfl h1) [0] rfl rfl rfl (Nat.le_of_ble_eq_true rfl) (Nat.le_of_ble_eq_true rfl) (Nat.le_of_ble_eq_true rfl) (Nat.le_of_ble_eq_true rfl) (Nat.le_of_ble_eq_true rfl) dX10_has_10 (fun v w1 hp => ?_)
    obtain ⟨rfl, rfl⟩ := hp
    refine g_nrm (cs1 := [w]) (st1 := [.int (nI (b + k)), .int i]) rfl rfl ?_
    refine g_val (v := if (nI (b + k)) < i then 0 else 1) (pcJ := 21) (st1 := []) (fun hj2 => ?_) ?_
    · refine g_icmp_gt hX (pc := 13) (tgt := 20) dX10_has_13 rfl (fun c3 => ?_) (fun c3 => ?_)
      · refine g_iconst hX (pc := 20) (v := 0) dX10_has_20 (by decide) ?_
        exact hj2 _ (by rw [if_pos c3])
      · refine g_iconst hX (pc := 16) (v := 1) dX10_has_16 (by decide) ?_
        refine g_goto hX (pc := 17) (tgt := 21) dX10_has_17 rfl ?_
        exact hj2 _ (by rw [if_neg c3])
    refine g_zret hX (pc := 21) hR (nz01 _) ?_ (Nat.le_of_ble_eq_true rfl) (Nat.le_of_ble_eq_true rfl) dX10_has_21
    refine ⟨?_, rfl⟩
    by_cases h9 : nI (b + k) < i
    · rw [if_pos h9, if_neg (fun z => absurd z.2 (Int32.not_le.mpr h9))]
    · rw [if_neg h9, if_pos ⟨Int32.not_le.mp c1, Int32.not_lt.mp h9⟩]

set_option maxHeartbeats 4000000 in
theorem mt_Q_entryNow (E : EE) (l : Launch) (y : Nat) (e : PEn) (wh : Nat) (fz : va_W) (hz : ((y, enC e) ∈ fz)) (hw : (wh < 2)) : Mt E l yX1_entryNow cX1_entryNow 2 (some .int) 1 0 0 1 [.ref y, .int (nI wh)] [fz] (fun (v_ : Option Value) (cs_ : List va_W) => v_ = some (.int (oEn e wh)) ∧ cs_ = [fz]) := by
  refine Mt.of (by decide) (Nat.le_of_ble_eq_true rfl) (fun X hX hR hin => ?_)
  refine g_lv1 (lv1 := [(0, .ref y), (1, .int (nI wh))]) rfl ?_
  refine g_iload_n hX (pc := 0) dX1_entryNow_0 1 rfl ?_
  refine g_val (v := if (nI wh) = 0 then (Prod.fst e) else (Prod.snd e)) (pcJ := 15) (st1 := []) (fun hj1 => ?_) ?_
  · refine g_if_ne hX (pc := 1) (tgt := 11) dX1_entryNow_1 rfl (fun c2 => ?_) (fun c2 => ?_)
    · refine g_aload_n hX (pc := 11) dX1_entryNow_11 0 rfl ?_
      refine g_getNm hX (pc := 12) fcX14 (sp_in 0 rfl hz) 1 (by decide) q1122 rfl (v := .int (Prod.snd e)) rfl dX1_entryNow_12 ?_
      exact hj1 _ (by rw [if_neg c2])
    · refine g_aload_n hX (pc := 4) dX1_entryNow_4 0 rfl ?_
      refine g_getNm hX (pc := 5) fcX14 (sp_in 0 rfl hz) 0 (by decide) q1119 rfl (v := .int (Prod.fst e)) rfl dX1_entryNow_5 ?_
      refine g_goto hX (pc := 8) (tgt := 15) dX1_entryNow_8 rfl ?_
      exact hj1 _ (by rw [if_pos c2])
  refine g_iret hX (pc := 15) hR ?_ (Nat.le_of_ble_eq_true rfl) (Nat.le_of_ble_eq_true rfl) dX1_entryNow_15
  refine ⟨?_, rfl⟩
  unfold oEn
  have e0 : nI wh = 0 ↔ wh = 0 := by rw [← nI_0, nI_eq (by omega) (by omega)]
  simp only [e0]

set_option maxHeartbeats 4000000 in
theorem mt_Q_entry (E : EE) (l : Launch) (o : Nat) (n : Nat) (lm : Nat) (lb : Nat) (lr : Nat) (P : PN) (wm : va_W) (wM : va_W) (fz : va_W) (k : Nat) (num : Nat) (wh : Nat) (hML : ML E fz lm (nM P) wm wM) (h5 : ((nM P).length ≤ 5)) (hk : (k < (nM P).length)) (hnum : (lB (mL (mAt P k)) < num ∧ num ≤ lLast (mL (mAt P k)))) (hn6 : (num ≤ 1000000)) (hll : (lLast (mL (mAt P k)) ≤ 1000000)) (hw : (wh < 2)) : Mt E l yX1_entry cX1_entry 5 (some .int) 6 0 0 107 [.ref o, .int (nI k), .int (nI num), .int (nI wh)] [[(o, ob 0 [.ref n])], [(n, ob 1 [.ref lm, .ref lb, .ref lr, .int (nLo P), .int (nNow P)])], wm, wM, fz] (fun (v_ : Option Value) (cs_ : List va_W) => v_ = some (.int (oEn (enG (mL (mAt P k)) num) wh)) ∧ cs_ = [[(o, ob 0 [.ref n])], [(n, ob 1 [.ref lm, .ref lb, .ref lr, .int (nLo P), .int (nNow P)])], wm, wM, fz]) := by
  refine Mt.of (by decide) (Nat.le_of_ble_eq_true rfl) (fun X hX hR hin => ?_)
  refine g_lv1 (lv1 := [(0, .ref o), (1, .int (nI k)), (2, .int (nI num)), (3, .int (nI wh))]) rfl ?_
  refine g_aload_n hX (pc := 0) dX1_entry_0 0 rfl ?_
  refine g_iload_n hX (pc := 1) dX1_entry_1 1 rfl ?_
  obtain ⟨M7, hgM7⟩ := get_ex (l := (nM P)) (i := k) (hk)
  obtain ⟨mas1, m2, hAm3, hml4, hmk5, hMI6⟩ := ML.at hML hgM7
  refine g_callV hX (pc := 2) kX1_machineAt (mt_Q_machineAtI E l o n lm lb lr (nLo P) (nNow P) mas1 wm k m2 M7 fz wM hAm3 hMI6 (hmk5) (by omega)) q1360 fcX1 (sp_mem (i := 0) rfl) [0, 0, 0, 0] rfl rfl rfl (Nat.le_of_ble_eq_true rfl) (Nat.le_of_ble_eq_true rfl) (Nat.le_of_ble_eq_true rfl) (by omega) (by omega) dX1_entry_2 (fun v w1 hp => ?_)
  obtain ⟨rfl, rfl⟩ := hp
  refine g_nrm (cs1 := [[(o, ob 0 [.ref n])], [(n, ob 1 [.ref lm, .ref lb, .ref lr, .int (nLo P), .int (nNow P)])], wm, wM, fz]) (st1 := [.ref m2]) rfl rfl ?_
  obtain ⟨rn8, rk9, rl10, rs11, rst12, la13, sp14, m015, arr16, cap17, f18, y19, e20, h121, h222, h323, h424, hf25, hz26, he27, hn28, hc29⟩ := MachIn.ent hMI6 (i := num - lB (mL M7) - 1) (by rw [mAt_get hgM7] at hnum; have : lLast (mL M7) = lB (mL M7) + (lE (mL M7)).length := rfl; omega)
  refine g_getNm hX (pc := 5) fcX9 (sp_in 3 rfl h121) 3 (by decide) q934 rfl (v := .ref rl10) rfl dX1_entry_5 ?_
  refine g_astore hX (pc := 8) (lv1 := [(4, .ref rl10), (0, .ref o), (1, .int (nI k)), (2, .int (nI num)), (3, .int (nI wh))]) dX1_entry_8 (by decide) rfl ?_
  refine g_aload hX (pc := 10) dX1_entry_10 0 rfl ?_
  refine g_iload_n hX (pc := 12) dX1_entry_12 3 rfl ?_
  refine g_callV hX (pc := 13) kX10_has (mt_Log_hasM E l rl10 la13 (lT (mL M7)) (lV (mL M7)) (lB (mL M7)) (lBT (mL M7)) sp14 m015 arr16 (List.length (lE (mL M7))) wM (nI num) (h222) (h323)) q1524 fcX10 (sp_in 3 rfl h222) [3] rfl rfl rfl (Nat.le_of_ble_eq_true rfl) (Nat.le_of_ble_eq_true rfl) (Nat.le_of_ble_eq_true rfl) (by omega) (by omega) dX1_entry_13 (fun v w1 hp => ?_)
  obtain ⟨rfl, rfl⟩ := hp
  refine g_nrm (cs1 := [wM, [(o, ob 0 [.ref n])], [(n, ob 1 [.ref lm, .ref lb, .ref lr, .int (nLo P), .int (nNow P)])], wm, fz]) (st1 := [.int (if nI (lB (mL M7)) < (nI num) ∧ (nI num) ≤ nI ((lB (mL M7)) + (List.length (lE (mL M7)))) then 1 else 0)]) rfl rfl ?_
  refine g_eqi 1 (if_pos (by have hx := hnum; rw [mAt_get hgM7] at hx; have hl : lLast (mL M7) = lB (mL M7) + (lE (mL M7)).length := rfl; exact ⟨nI_lt hx.1 (by omega), nI_le (by omega) (by omega)⟩)) ?_
  refine g_if_eq hX (pc := 16) (tgt := 23) dX1_entry_16 rfl (fun c30 => ?_) (fun c30 => ?_)
  · exact absurd c30 (by decide)
  · refine g_iconst hX (pc := 19) (v := 0) dX1_entry_19 (by decide) ?_
    refine g_goto hX (pc := 20) (tgt := 24) dX1_entry_20 rfl ?_
    refine g_iconst hX (pc := 24) (v := 1) dX1_entry_24 (by decide) ?_
    refine g_callS hX (pc := 25) kX1_checkPlace (mt_checkPlace E l 0 1 (by decide) (by decide)) q1364 [] rfl rfl rfl (Nat.le_of_ble_eq_true rfl) (Nat.le_of_ble_eq_true rfl) (Nat.le_of_ble_eq_true rfl) (by omega) (by omega) dX1_entry_25 (fun v w1 hp => ?_)
    obtain ⟨rfl, rfl⟩ := hp
    refine g_nrm (cs1 := [wM, [(o, ob 0 [.ref n])], [(n, ob 1 [.ref lm, .ref lb, .ref lr, .int (nLo P), .int (nNow P)])], wm, fz]) (st1 := []) rfl rfl ?_
    refine g_iload_n hX (pc := 28) dX1_entry_28 4 rfl ?_
    refine g_iconst hX (pc := 29) (v := 0) dX1_entry_29 (by decide) ?_
    refine g_iconst hX (pc := 30) (v := 1) dX1_entry_30 (by decide) ?_
    refine g_callS hX (pc := 31) kX1_mustBeIn (mt_mustBeIn E l (nI wh) 0 1 (show ¬ nI wh < nI 0 from nI_nlt (by omega) (by omega)) (show ¬ nI 1 < nI wh from nI_nlt (by omega) (by omega))) q1308 [] rfl rfl rfl (Nat.le_of_ble_eq_true rfl) (Nat.le_of_ble_eq_true rfl) (Nat.le_of_ble_eq_true rfl) (by omega) (by omega) dX1_entry_31 (fun v w1 hp => ?_)
    obtain ⟨rfl, rfl⟩ := hp
    refine g_nrm (cs1 := [wM, [(o, ob 0 [.ref n])], [(n, ob 1 [.ref lm, .ref lb, .ref lr, .int (nLo P), .int (nNow P)])], wm, fz]) (st1 := []) rfl rfl ?_
    refine g_aload hX (pc := 34) dX1_entry_34 0 rfl ?_
    refine g_iload_n hX (pc := 36) dX1_entry_36 3 rfl ?_
    refine g_callV hX (pc := 37) kX10_at (mt_Log_atM E l rl10 la13 (lT (mL M7)) (lV (mL M7)) (lB (mL M7)) (lBT (mL M7)) sp14 m015 arr16 (List.length (lE (mL M7))) cap17 f18 num y19 e20 wM fz (h222) (h323) (h424) (by rw [mAt_get hgM7] at hnum; omega) (by omega) (by rw [mAt_get hgM7] at hnum; have : lLast (mL M7) = lB (mL M7) + (lE (mL M7)).length := rfl; omega) (hn28) (hc29) (hf25) (hz26)) q782 fcX10 (sp_in 0 rfl h222) [0, 3] rfl rfl rfl (Nat.le_of_ble_eq_true rfl) (Nat.le_of_ble_eq_true rfl) (Nat.le_of_ble_eq_true rfl) (by omega) (by omega) dX1_entry_37 (fun v w1 hp => ?_)
    obtain ⟨rfl, rfl⟩ := hp
    refine g_nrm (cs1 := [wM, fz, [(o, ob 0 [.ref n])], [(n, ob 1 [.ref lm, .ref lb, .ref lr, .int (nLo P), .int (nNow P)])], wm]) (st1 := [.ref y19]) rfl rfl ?_
    refine g_iload_n hX (pc := 40) dX1_entry_40 4 rfl ?_
    refine g_callS hX (pc := 41) kX1_entryNow (mt_Q_entryNow E l y19 e20 wh fz (hz26) (hw)) q783 [1] rfl rfl rfl (Nat.le_of_ble_eq_true rfl) (Nat.le_of_ble_eq_true rfl) (Nat.le_of_ble_eq_true rfl) (by omega) (by omega) dX1_entry_41 (fun v w1 hp => ?_)
    obtain ⟨rfl, rfl⟩ := hp
    refine g_nrm (cs1 := [fz, wM, [(o, ob 0 [.ref n])], [(n, ob 1 [.ref lm, .ref lb, .ref lr, .int (nLo P), .int (nNow P)])], wm]) (st1 := [.int (oEn e20 wh)]) rfl rfl ?_
    refine g_pk [2, 2, 2, 1, 0] rfl ?_
    refine g_cs (cs1 := [[(o, ob 0 [.ref n])], [(n, ob 1 [.ref lm, .ref lb, .ref lr, .int (nLo P), .int (nNow P)])], wm, wM, fz]) rfl ?_
    refine g_iret hX (pc := 44) hR ?_ (by omega) (by omega) dX1_entry_44
    rw [mAt_get hgM7, show enG (mL M7) num = e20 from by unfold enG; rw [he27]; rfl]
    exact ⟨rfl, rfl⟩

set_option maxHeartbeats 4000000 in
theorem mt_Q_follows (E : EE) (l : Launch) (o : Nat) (n : Nat) (lm : Nat) (lb : Nat) (lr : Nat) (P : PN) (wm : va_W) (wM : va_W) (fz : va_W) (k : Nat) (j : Nat) (nx : Bool) (hML : ML E fz lm (nM P) wm wM) (h5 : ((nM P).length ≤ 5)) (hk : (k < (nM P).length)) (hj : (j < (nM P).length)) : Mt E l yX1_follows cX1_follows 4 (some .int) 6 0 0 110 [.ref o, .int (nI k), .int (nI j), .int (bI nx)] [[(o, ob 0 [.ref n])], [(n, ob 1 [.ref lm, .ref lb, .ref lr, .int (nLo P), .int (nNow P)])], wm, wM] (fun (v_ : Option Value) (cs_ : List va_W) => v_ = some (.int (oFol (mAt P k) k j nx)) ∧ cs_ = [[(o, ob 0 [.ref n])], [(n, ob 1 [.ref lm, .ref lb, .ref lr, .int (nLo P), .int (nNow P)])], wm, wM]) := by
  refine Mt.of (by decide) (Nat.le_of_ble_eq_true rfl) (fun X hX hR hin => ?_)
  refine g_lv1 (lv1 := [(0, .ref o), (1, .int (nI k)), (2, .int (nI j)), (3, .int (bI nx))]) rfl ?_
  refine g_aload_n hX (pc := 0) dX1_follows_0 0 rfl ?_
  refine g_iload_n hX (pc := 1) dX1_follows_1 1 rfl ?_
  obtain ⟨M7, hgM7⟩ := get_ex (l := (nM P)) (i := k) (hk)
  obtain ⟨mas1, m2, hAm3, hml4, hmk5, hMI6⟩ := ML.at hML hgM7
  obtain ⟨rn8, rk9, rl10, rs11, rst12, la13, sp14, lb15, sp216, fn17, fk18, m019, arr20, m121, arr122, h123, h224, h325, h426, h527, h628, h729, hn30⟩ := hMI6.peek
  refine g_callV hX (pc := 2) kX1_machineAt (mt_Q_machineAtI E l o n lm lb lr (nLo P) (nNow P) mas1 wm k m2 M7 fz wM hAm3 hMI6 (hmk5) (by omega)) q1360 fcX1 (sp_mem (i := 0) rfl) [0, 0, 0, 0] rfl rfl rfl (Nat.le_of_ble_eq_true rfl) (Nat.le_of_ble_eq_true rfl) (Nat.le_of_ble_eq_true rfl) (by omega) (by omega) dX1_follows_2 (fun v w1 hp => ?_)
  obtain ⟨rfl, rfl⟩ := hp
  refine g_nrm (cs1 := [[(o, ob 0 [.ref n])], [(n, ob 1 [.ref lm, .ref lb, .ref lr, .int (nLo P), .int (nNow P)])], wm, wM]) (st1 := [.ref m2]) rfl rfl ?_
  refine g_pop hX (pc := 5) dX1_follows_5 rfl ?_
  refine g_aload_n hX (pc := 6) dX1_follows_6 0 rfl ?_
  refine g_iload_n hX (pc := 7) dX1_follows_7 2 rfl ?_
  obtain ⟨M37, hgM37⟩ := get_ex (l := (nM P)) (i := j) (hj)
  obtain ⟨mas31, m32, hAm33, hml34, hmk35, hMI36⟩ := ML.at hML hgM37
  obtain ⟨rn38, rk39, rl40, rs41, rst42, la43, sp44, lb45, sp246, fn47, fk48, m049, arr50, m151, arr152, h153, h254, h355, h456, h557, h658, h759, hn60⟩ := hMI36.peek
  refine g_callV hX (pc := 8) kX1_machineAt (mt_Q_machineAtI E l o n lm lb lr (nLo P) (nNow P) mas31 wm j m32 M37 fz wM hAm33 hMI36 (hmk35) (by omega)) q1360 fcX1 (sp_mem (i := 0) rfl) [0, 0, 0, 0] rfl rfl rfl (Nat.le_of_ble_eq_true rfl) (Nat.le_of_ble_eq_true rfl) (Nat.le_of_ble_eq_true rfl) (by omega) (by omega) dX1_follows_8 (fun v w1 hp => ?_)
  obtain ⟨rfl, rfl⟩ := hp
  refine g_nrm (cs1 := [[(o, ob 0 [.ref n])], [(n, ob 1 [.ref lm, .ref lb, .ref lr, .int (nLo P), .int (nNow P)])], wm, wM]) (st1 := [.ref m32]) rfl rfl ?_
  refine g_pop hX (pc := 11) dX1_follows_11 rfl ?_
  refine g_aload_n hX (pc := 12) dX1_follows_12 0 rfl ?_
  refine g_get hX (pc := 13) fcX1 0 rfl 0 (by decide) q176 rfl (v := .ref n) rfl dX1_follows_13 ?_
  refine g_iload_n hX (pc := 16) dX1_follows_16 1 rfl ?_
  refine g_iload_n hX (pc := 17) dX1_follows_17 2 rfl ?_
  refine g_iload_n hX (pc := 18) dX1_follows_18 3 rfl ?_
  refine g_callV hX (pc := 19) kX2_follows (mt_Net_follows E l n lm lb lr P wm wM fz k j nx hML (hk) (by omega) (by omega)) q786 fcX2 (sp_mem (i := 1) rfl) [1, 1, 1] rfl rfl rfl (Nat.le_of_ble_eq_true rfl) (Nat.le_of_ble_eq_true rfl) (Nat.le_of_ble_eq_true rfl) (by omega) (by omega) dX1_follows_19 (fun v w1 hp => ?_)
  obtain ⟨rfl, rfl⟩ := hp
  refine g_nrm (cs1 := [[(n, ob 1 [.ref lm, .ref lb, .ref lr, .int (nLo P), .int (nNow P)])], wm, wM, [(o, ob 0 [.ref n])]]) (st1 := [.int (oFol (mAt P k) k j nx)]) rfl rfl ?_
  refine g_pk [3, 0, 0, 0] rfl ?_
  refine g_cs (cs1 := [[(o, ob 0 [.ref n])], [(n, ob 1 [.ref lm, .ref lb, .ref lr, .int (nLo P), .int (nNow P)])], wm, wM]) rfl ?_
  refine g_iret hX (pc := 22) hR ?_ (by omega) (by omega) dX1_follows_22
  exact ⟨rfl, rfl⟩

set_option maxHeartbeats 4000000 in
theorem mt_Store_toldM (E : EE) (l : Launch) (a : Nat) (sr : Nat → Nat) (S : PS) (f0 : Nat → Int32) (f1 : Nat → Int32) (f2 : Nat → Int32) (f3 : Nat → Int32) (f4 : Nat → Int32) (f5 : Nat → Int32) (w : va_W) (ky : Nat) (wh : Nat) (h6 : (S6 S f0 f1 f2 f3 f4 f5)) (h0 : ((a, ob 7 [.ref (sr 0), .ref (sr 1), .ref (sr 2), .ref (sr 3), .ref (sr 4), .ref (sr 5), .int (S 6 0)]) ∈ w)) (k0 : ((sr 0, iA (aC E 0) 4 f0) ∈ w)) (k1 : ((sr 1, iA (aC E 0) 4 f1) ∈ w)) (k2 : ((sr 2, iA (aC E 0) 4 f2) ∈ w)) (k3 : ((sr 3, iA (aC E 0) 4 f3) ∈ w)) (hk : (ky < 4)) (hh : (wh < 5)) : Mt E l yX8_told cX8_told 3 (some .int) 1 0 0 1 [.ref a, .int (nI ky), .int (nI wh)] [w] (fun (v_ : Option Value) (cs_ : List va_W) => v_ = some (.int (oSto S ky wh)) ∧ cs_ = [w]) := by
  refine Mt.of (by decide) (Nat.le_of_ble_eq_true rfl) (fun X hX hR hin => ?_)
  refine g_lv1 (lv1 := [(0, .ref a), (1, .int (nI ky)), (2, .int (nI wh))]) rfl ?_
  refine g_iload_n hX (pc := 0) dX8_told_0 2 rfl ?_
  refine g_val (v := if (nI wh) = 0 then (f0 ky) else (if (nI wh) = 1 then (f1 ky) else (if (nI wh) = 2 then (f2 ky) else (if (nI wh) = 3 then (f3 ky) else (S 6 0))))) (pcJ := 59) (st1 := []) (fun hj1 => ?_) ?_
  · refine g_if_ne hX (pc := 1) (tgt := 13) dX8_told_1 rfl (fun c2 => ?_) (fun c2 => ?_)
    · refine g_iload_n hX (pc := 13) dX8_told_13 2 rfl ?_
      refine g_iconst hX (pc := 14) (v := 1) dX8_told_14 (by decide) ?_
      refine g_icmp_ne hX (pc := 15) (tgt := 27) dX8_told_15 rfl (fun c3 => ?_) (fun c3 => ?_)
      · refine g_iload_n hX (pc := 27) dX8_told_27 2 rfl ?_
        refine g_iconst hX (pc := 28) (v := 2) dX8_told_28 (by decide) ?_
        refine g_icmp_ne hX (pc := 29) (tgt := 41) dX8_told_29 rfl (fun c4 => ?_) (fun c4 => ?_)
        · refine g_iload_n hX (pc := 41) dX8_told_41 2 rfl ?_
          refine g_iconst hX (pc := 42) (v := 3) dX8_told_42 (by decide) ?_
          refine g_icmp_ne hX (pc := 43) (tgt := 55) dX8_told_43 rfl (fun c5 => ?_) (fun c5 => ?_)
          · refine g_aload_n hX (pc := 55) dX8_told_55 0 rfl ?_
            refine g_getm hX (pc := 56) fcX8 (sp_in 0 rfl h0) 6 (by decide) q902 rfl (v := .int (S 6 0)) rfl dX8_told_56 ?_
            exact hj1 _ (by rw [if_neg c2, if_neg c3, if_neg c4, if_neg c5])
          · refine g_aload_n hX (pc := 46) dX8_told_46 0 rfl ?_
            refine g_getm hX (pc := 47) fcX8 (sp_in 0 rfl h0) 3 (by decide) q899 rfl (v := .ref (sr 3)) rfl dX8_told_47 ?_
            refine g_iload_n hX (pc := 50) dX8_told_50 1 rfl ?_
            refine g_iald hX (pc := 51) (sp_in 0 rfl k3) (v := f3 ky) (vp_in_nI (by omega) (by omega)) (by rw [nI_clamp (by omega)]) dX8_told_51 ?_
            refine g_goto hX (pc := 52) (tgt := 59) dX8_told_52 rfl ?_
            exact hj1 _ (by rw [if_neg c2, if_neg c3, if_neg c4, if_pos c5])
        · refine g_aload_n hX (pc := 32) dX8_told_32 0 rfl ?_
          refine g_getm hX (pc := 33) fcX8 (sp_in 0 rfl h0) 2 (by decide) q898 rfl (v := .ref (sr 2)) rfl dX8_told_33 ?_
          refine g_iload_n hX (pc := 36) dX8_told_36 1 rfl ?_
          refine g_iald hX (pc := 37) (sp_in 0 rfl k2) (v := f2 ky) (vp_in_nI (by omega) (by omega)) (by rw [nI_clamp (by omega)]) dX8_told_37 ?_
          refine g_goto hX (pc := 38) (tgt := 59) dX8_told_38 rfl ?_
          exact hj1 _ (by rw [if_neg c2, if_neg c3, if_pos c4])
      · refine g_aload_n hX (pc := 18) dX8_told_18 0 rfl ?_
        refine g_getm hX (pc := 19) fcX8 (sp_in 0 rfl h0) 1 (by decide) q897 rfl (v := .ref (sr 1)) rfl dX8_told_19 ?_
        refine g_iload_n hX (pc := 22) dX8_told_22 1 rfl ?_
        refine g_iald hX (pc := 23) (sp_in 0 rfl k1) (v := f1 ky) (vp_in_nI (by omega) (by omega)) (by rw [nI_clamp (by omega)]) dX8_told_23 ?_
        refine g_goto hX (pc := 24) (tgt := 59) dX8_told_24 rfl ?_
        exact hj1 _ (by rw [if_neg c2, if_pos c3])
    · refine g_aload_n hX (pc := 4) dX8_told_4 0 rfl ?_
      refine g_getm hX (pc := 5) fcX8 (sp_in 0 rfl h0) 0 (by decide) q895 rfl (v := .ref (sr 0)) rfl dX8_told_5 ?_
      refine g_iload_n hX (pc := 8) dX8_told_8 1 rfl ?_
      refine g_iald hX (pc := 9) (sp_in 0 rfl k0) (v := f0 ky) (vp_in_nI (by omega) (by omega)) (by rw [nI_clamp (by omega)]) dX8_told_9 ?_
      refine g_goto hX (pc := 10) (tgt := 59) dX8_told_10 rfl ?_
      exact hj1 _ (by rw [if_pos c2])
  refine g_iret hX (pc := 59) hR ?_ (Nat.le_of_ble_eq_true rfl) (Nat.le_of_ble_eq_true rfl) dX8_told_59
  refine ⟨?_, rfl⟩
  unfold oSto
  obtain ⟨e0, e1, e2, e3, e4, e5⟩ := h6 ky hk
  have n0 : nI wh = 0 ↔ wh = 0 := by rw [← nI_0, nI_eq (by omega) (by omega)]
  have n1 : nI wh = 1 ↔ wh = 1 := by rw [show (1 : Int32) = nI 1 from rfl, nI_eq (by omega) (by omega)]
  have n2 : nI wh = 2 ↔ wh = 2 := by rw [show (2 : Int32) = nI 2 from rfl, nI_eq (by omega) (by omega)]
  have n3 : nI wh = 3 ↔ wh = 3 := by rw [show (3 : Int32) = nI 3 from rfl, nI_eq (by omega) (by omega)]
  simp only [n0, n1, n2, n3, e0, e1, e2, e3]
  rcases (show wh = 0 ∨ wh = 1 ∨ wh = 2 ∨ wh = 3 ∨ wh = 4 by omega) with h | h | h | h | h <;> simp [h]

set_option maxHeartbeats 4000000 in
theorem mt_Q_stored (E : EE) (l : Launch) (o : Nat) (n : Nat) (lm : Nat) (lb : Nat) (lr : Nat) (P : PN) (wm : va_W) (wM : va_W) (fz : va_W) (k : Nat) (ky : Nat) (wh : Nat) (hML : ML E fz lm (nM P) wm wM) (h5 : ((nM P).length ≤ 5)) (hk : (k < (nM P).length)) (hy : (ky < 4)) (hw : (wh < 5)) : Mt E l yX1_stored cX1_stored 5 (some .int) 6 0 0 107 [.ref o, .int (nI k), .int (nI ky), .int (nI wh)] [[(o, ob 0 [.ref n])], [(n, ob 1 [.ref lm, .ref lb, .ref lr, .int (nLo P), .int (nNow P)])], wm, wM] (fun (v_ : Option Value) (cs_ : List va_W) => v_ = some (.int (oSto (mS (mAt P k)) ky wh)) ∧ cs_ = [[(o, ob 0 [.ref n])], [(n, ob 1 [.ref lm, .ref lb, .ref lr, .int (nLo P), .int (nNow P)])], wm, wM]) := by
  refine Mt.of (by decide) (Nat.le_of_ble_eq_true rfl) (fun X hX hR hin => ?_)
  refine g_lv1 (lv1 := [(0, .ref o), (1, .int (nI k)), (2, .int (nI ky)), (3, .int (nI wh))]) rfl ?_
  refine g_aload_n hX (pc := 0) dX1_stored_0 0 rfl ?_
  refine g_iload_n hX (pc := 1) dX1_stored_1 1 rfl ?_
  obtain ⟨M7, hgM7⟩ := get_ex (l := (nM P)) (i := k) (hk)
  obtain ⟨mas1, m2, hAm3, hml4, hmk5, hMI6⟩ := ML.at hML hgM7
  obtain ⟨rn8, rk9, rl10, rs11, rst12, la13, sp14, lb15, sp216, fn17, fk18, m019, arr20, m121, arr122, h123, h224, h325, h426, h527, h628, h729, hn30⟩ := hMI6.peek
  refine g_callV hX (pc := 2) kX1_machineAt (mt_Q_machineAtI E l o n lm lb lr (nLo P) (nNow P) mas1 wm k m2 M7 fz wM hAm3 hMI6 (hmk5) (by omega)) q1360 fcX1 (sp_mem (i := 0) rfl) [0, 0, 0, 0] rfl rfl rfl (Nat.le_of_ble_eq_true rfl) (Nat.le_of_ble_eq_true rfl) (Nat.le_of_ble_eq_true rfl) (by omega) (by omega) dX1_stored_2 (fun v w1 hp => ?_)
  obtain ⟨rfl, rfl⟩ := hp
  refine g_nrm (cs1 := [[(o, ob 0 [.ref n])], [(n, ob 1 [.ref lm, .ref lb, .ref lr, .int (nLo P), .int (nNow P)])], wm, wM]) (st1 := [.ref m2]) rfl rfl ?_
  refine g_astore hX (pc := 5) (lv1 := [(4, .ref m2), (0, .ref o), (1, .int (nI k)), (2, .int (nI ky)), (3, .int (nI wh))]) dX1_stored_5 (by decide) rfl ?_
  refine g_iload_n hX (pc := 7) dX1_stored_7 3 rfl ?_
  refine g_iconst hX (pc := 8) (v := 4) dX1_stored_8 (by decide) ?_
  refine g_callS hX (pc := 9) kX1_checkPlace (mt_checkPlace E l (nI ky) 4 (nI_pos (by omega)) (show nI ky < nI 4 from nI_lt hy (by omega))) q1364 [] rfl rfl rfl (Nat.le_of_ble_eq_true rfl) (Nat.le_of_ble_eq_true rfl) (Nat.le_of_ble_eq_true rfl) (by omega) (by omega) dX1_stored_9 (fun v w1 hp => ?_)
  obtain ⟨rfl, rfl⟩ := hp
  refine g_nrm (cs1 := [[(o, ob 0 [.ref n])], [(n, ob 1 [.ref lm, .ref lb, .ref lr, .int (nLo P), .int (nNow P)])], wm, wM]) (st1 := []) rfl rfl ?_
  refine g_iload_n hX (pc := 12) dX1_stored_12 4 rfl ?_
  refine g_iconst hX (pc := 13) (v := 0) dX1_stored_13 (by decide) ?_
  refine g_iconst hX (pc := 14) (v := 4) dX1_stored_14 (by decide) ?_
  refine g_callS hX (pc := 15) kX1_mustBeIn (mt_mustBeIn E l (nI wh) 0 4 (show ¬ nI wh < nI 0 from nI_nlt (by omega) (by omega)) (show ¬ nI 4 < nI wh from nI_nlt (by omega) (by omega))) q1308 [] rfl rfl rfl (Nat.le_of_ble_eq_true rfl) (Nat.le_of_ble_eq_true rfl) (Nat.le_of_ble_eq_true rfl) (by omega) (by omega) dX1_stored_15 (fun v w1 hp => ?_)
  obtain ⟨rfl, rfl⟩ := hp
  refine g_nrm (cs1 := [[(o, ob 0 [.ref n])], [(n, ob 1 [.ref lm, .ref lb, .ref lr, .int (nLo P), .int (nNow P)])], wm, wM]) (st1 := []) rfl rfl ?_
  obtain ⟨rn31, rk32, rl33, rs34, rst35, sr36, f037, f138, f239, f340, f441, f542, h143, h644, h045, k046, k147, k248, k349⟩ := MachIn.sto hMI6
  refine g_aload hX (pc := 18) dX1_stored_18 0 rfl ?_
  refine g_getNm hX (pc := 20) fcX9 (sp_in 3 rfl h143) 5 (by decide) q939 rfl (v := .ref rst35) rfl dX1_stored_20 ?_
  refine g_iload_n hX (pc := 23) dX1_stored_23 3 rfl ?_
  refine g_iload_n hX (pc := 24) dX1_stored_24 4 rfl ?_
  refine g_callV hX (pc := 25) kX8_told (mt_Store_toldM E l rst35 sr36 (mS M7) f037 f138 f239 f340 f441 f542 wM ky wh (h644) (h045) (k046) (k147) (k248) (k349) (by omega) (by omega)) q790 fcX8 (sp_in 3 rfl h045) [3] rfl rfl rfl (Nat.le_of_ble_eq_true rfl) (Nat.le_of_ble_eq_true rfl) (Nat.le_of_ble_eq_true rfl) (by omega) (by omega) dX1_stored_25 (fun v w1 hp => ?_)
  obtain ⟨rfl, rfl⟩ := hp
  refine g_nrm (cs1 := [wM, [(o, ob 0 [.ref n])], [(n, ob 1 [.ref lm, .ref lb, .ref lr, .int (nLo P), .int (nNow P)])], wm]) (st1 := [.int (oSto (mS M7) ky wh)]) rfl rfl ?_
  refine g_pk [1, 1, 1, 0] rfl ?_
  refine g_cs (cs1 := [[(o, ob 0 [.ref n])], [(n, ob 1 [.ref lm, .ref lb, .ref lr, .int (nLo P), .int (nNow P)])], wm, wM]) rfl ?_
  refine g_iret hX (pc := 28) hR ?_ (by omega) (by omega) dX1_stored_28
  rw [mAt_get hgM7]
  exact ⟨rfl, rfl⟩

set_option maxHeartbeats 4000000 in
theorem mt_Q_message (E : EE) (l : Launch) (o : Nat) (n : Nat) (lm : Nat) (lb : Nat) (lr : Nat) (P : PN) (wb : va_W) (fz : va_W) (i : Nat) (g : PMg) (wh : Nat) (hB : BL E fz lb (nB P) wb) (hi : ((nB P)[i]? = some g)) (h30 : ((nB P).length ≤ 30)) (hg5 : (gW g < 5 ∧ List.length (gE g) ≤ 1000)) (hw : (wh < 7)) : Mt E l yX1_message cX1_message 4 (some .int) 5 0 0 86 [.ref o, .int (nI i), .int (nI wh)] [[(o, ob 0 [.ref n])], [(n, ob 1 [.ref lm, .ref lb, .ref lr, .int (nLo P), .int (nNow P)])], wb, fz] (fun (v_ : Option Value) (cs_ : List va_W) => v_ = some (.int (gTold g wh)) ∧ cs_ = [[(o, ob 0 [.ref n])], [(n, ob 1 [.ref lm, .ref lb, .ref lr, .int (nLo P), .int (nNow P)])], wb, fz]) := by
  obtain ⟨bas, a, hAb, hbl, hba, hg, hbo, hBc⟩ := bl_focus hB hi
  have hn30 : bas.length ≤ 30 := by omega
  refine Mt.of (by decide) (Nat.le_of_ble_eq_true rfl) (fun X hX hR hin => ?_)
  refine g_lv1 (lv1 := [(0, .ref o), (1, .int (nI i)), (2, .int (nI wh))]) rfl ?_
  refine g_aload_n hX (pc := 0) dX1_message_0 0 rfl ?_
  refine g_iload_n hX (pc := 1) dX1_message_1 1 rfl ?_
  refine g_callV hX (pc := 2) kX1_messageAt (mt_Q_messageAt E l o n lm lb lr (nLo P) (nNow P) bas wb fz i a g hAb (hba) (hn30) hg) q1400 fcX1 (sp_mem (i := 0) rfl) [0, 0, 0, 0] rfl rfl rfl (Nat.le_of_ble_eq_true rfl) (Nat.le_of_ble_eq_true rfl) (Nat.le_of_ble_eq_true rfl) (by omega) (by omega) dX1_message_2 (fun v w1 hp => ?_)
  obtain ⟨rfl, rfl⟩ := hp
  refine g_nrm (cs1 := [[(o, ob 0 [.ref n])], [(n, ob 1 [.ref lm, .ref lb, .ref lr, .int (nLo P), .int (nNow P)])], wb, fz]) (st1 := [.ref a]) rfl rfl ?_
  refine g_astore_n hX (pc := 5) (lv1 := [(3, .ref a), (0, .ref o), (1, .int (nI i)), (2, .int (nI wh))]) dX1_message_5 (by decide) rfl ?_
  refine g_iload_n hX (pc := 6) dX1_message_6 3 rfl ?_
  refine g_iconst hX (pc := 7) (v := 0) dX1_message_7 (by decide) ?_
  refine g_bipush hX (pc := 8) (v := 6) dX1_message_8 (by decide) ?_
  refine g_callS hX (pc := 10) kX1_mustBeIn (mt_mustBeIn E l (nI wh) 0 6 (show ¬ nI wh < nI 0 from nI_nlt (by omega) (by omega)) (show ¬ nI 6 < nI wh from nI_nlt (by omega) (by omega))) q1308 [] rfl rfl rfl (Nat.le_of_ble_eq_true rfl) (Nat.le_of_ble_eq_true rfl) (Nat.le_of_ble_eq_true rfl) (by omega) (by omega) dX1_message_10 (fun v w1 hp => ?_)
  obtain ⟨rfl, rfl⟩ := hp
  refine g_nrm (cs1 := [[(o, ob 0 [.ref n])], [(n, ob 1 [.ref lm, .ref lb, .ref lr, .int (nLo P), .int (nNow P)])], wb, fz]) (st1 := []) rfl rfl ?_
  obtain ⟨ra, sp, ges, f, hg1, -⟩ := MsgIn.out hg
  refine g_aload_n hX (pc := 13) dX1_message_13 0 rfl ?_
  refine g_iload_n hX (pc := 14) dX1_message_14 3 rfl ?_
  refine g_callV hX (pc := 15) kX13_told (mt_Message_told E l a g fz wh (hg) (hg5.1) (hw) (hg5.2)) q795 fcX13 (sp_in 3 rfl hg1) [3] rfl rfl rfl (Nat.le_of_ble_eq_true rfl) (Nat.le_of_ble_eq_true rfl) (Nat.le_of_ble_eq_true rfl) (by omega) (by omega) dX1_message_15 (fun v w1 hp => ?_)
  obtain ⟨rfl, rfl⟩ := hp
  refine g_nrm (cs1 := [fz, [(o, ob 0 [.ref n])], [(n, ob 1 [.ref lm, .ref lb, .ref lr, .int (nLo P), .int (nNow P)])], wb]) (st1 := [.int (gTold g wh)]) rfl rfl ?_
  refine g_pk [1, 1, 1, 0] rfl ?_
  refine g_cs (cs1 := [[(o, ob 0 [.ref n])], [(n, ob 1 [.ref lm, .ref lb, .ref lr, .int (nLo P), .int (nNow P)])], wb, fz]) rfl ?_
  refine g_iret hX (pc := 18) hR ?_ (by omega) (by omega) dX1_message_18
  exact ⟨rfl, rfl⟩

set_option maxHeartbeats 4000000 in
theorem mt_Q_requestNow (E : EE) (l : Launch) (a : Nat) (r : PR) (w : va_W) (wh : Nat) (hm : ((a, rqC E r) ∈ w)) (hkd : (rK r < 6)) (hw : (wh < 7)) : Mt E l yX1_requestNow cX1_requestNow 2 (some .int) 2 0 0 21 [.ref a, .int (nI wh)] [w] (fun (v_ : Option Value) (cs_ : List va_W) => v_ = some (.int (oReq r wh)) ∧ cs_ = [w]) := by
  refine Mt.of (by decide) (Nat.le_of_ble_eq_true rfl) (fun X hX hR hin => ?_)
  refine g_lv1 (lv1 := [(0, .ref a), (1, .int (nI wh))]) rfl ?_
  refine g_iload_n hX (pc := 0) dX1_requestNow_0 1 rfl ?_
  rcases (show wh = 0 ∨ wh = 1 ∨ wh = 2 ∨ wh = 3 ∨ wh = 4 ∨ wh = 5 ∨ (wh < 0 ∨ 5 < wh) by omega) with h1_0 | h1_1 | h1_2 | h1_3 | h1_4 | h1_5 | h1_d
  · refine g_tableIn hX (pc := 1) (tgt := 40) (off := 39) dX1_requestNow_1 (by rw [h1_0]; decide) (by rw [h1_0]; decide) (by rw [h1_0]; rfl) rfl ?_
    refine g_aload_n hX (pc := 40) dX1_requestNow_40 0 rfl ?_
    refine g_getNm hX (pc := 41) fcX12 (sp_in 0 rfl hm) 5 (by decide) q1007 rfl (v := .int (rRes r)) rfl dX1_requestNow_41 ?_
    refine g_iret hX (pc := 44) hR ?_ (Nat.le_of_ble_eq_true rfl) (Nat.le_of_ble_eq_true rfl) dX1_requestNow_44
    first | (rw [h1_0]; exact ⟨rfl, rfl⟩) | (rw [h1_1]; exact ⟨rfl, rfl⟩) | (rw [h1_2]; exact ⟨rfl, rfl⟩) | (rw [h1_3]; exact ⟨rfl, rfl⟩) | (rw [h1_4]; exact ⟨rfl, rfl⟩) | (rw [h1_5]; exact ⟨rfl, rfl⟩) | (rw [show wh = 6 by omega]; exact ⟨rfl, rfl⟩)
  · refine g_tableIn hX (pc := 1) (tgt := 45) (off := 44) dX1_requestNow_1 (by rw [h1_1]; decide) (by rw [h1_1]; decide) (by rw [h1_1]; rfl) rfl ?_
    refine g_aload_n hX (pc := 45) dX1_requestNow_45 0 rfl ?_
    refine g_getNm hX (pc := 46) fcX12 (sp_in 0 rfl hm) 6 (by decide) q1010 rfl (v := .int (rSent r)) rfl dX1_requestNow_46 ?_
    refine g_iret hX (pc := 49) hR ?_ (Nat.le_of_ble_eq_true rfl) (Nat.le_of_ble_eq_true rfl) dX1_requestNow_49
    first | (rw [h1_0]; exact ⟨rfl, rfl⟩) | (rw [h1_1]; exact ⟨rfl, rfl⟩) | (rw [h1_2]; exact ⟨rfl, rfl⟩) | (rw [h1_3]; exact ⟨rfl, rfl⟩) | (rw [h1_4]; exact ⟨rfl, rfl⟩) | (rw [h1_5]; exact ⟨rfl, rfl⟩) | (rw [show wh = 6 by omega]; exact ⟨rfl, rfl⟩)
  · refine g_tableIn hX (pc := 1) (tgt := 50) (off := 49) dX1_requestNow_1 (by rw [h1_2]; decide) (by rw [h1_2]; decide) (by rw [h1_2]; rfl) rfl ?_
    refine g_aload_n hX (pc := 50) dX1_requestNow_50 0 rfl ?_
    refine g_getNm hX (pc := 51) fcX12 (sp_in 0 rfl hm) 7 (by decide) q1013 rfl (v := .int (rAns r)) rfl dX1_requestNow_51 ?_
    refine g_iret hX (pc := 54) hR ?_ (Nat.le_of_ble_eq_true rfl) (Nat.le_of_ble_eq_true rfl) dX1_requestNow_54
    first | (rw [h1_0]; exact ⟨rfl, rfl⟩) | (rw [h1_1]; exact ⟨rfl, rfl⟩) | (rw [h1_2]; exact ⟨rfl, rfl⟩) | (rw [h1_3]; exact ⟨rfl, rfl⟩) | (rw [h1_4]; exact ⟨rfl, rfl⟩) | (rw [h1_5]; exact ⟨rfl, rfl⟩) | (rw [show wh = 6 by omega]; exact ⟨rfl, rfl⟩)
  · refine g_tableIn hX (pc := 1) (tgt := 55) (off := 54) dX1_requestNow_1 (by rw [h1_3]; decide) (by rw [h1_3]; decide) (by rw [h1_3]; rfl) rfl ?_
    refine g_aload_n hX (pc := 55) dX1_requestNow_55 0 rfl ?_
    refine g_getNm hX (pc := 56) fcX12 (sp_in 0 rfl hm) 8 (by decide) q1015 rfl (v := .int (rTimes r)) rfl dX1_requestNow_56 ?_
    refine g_iret hX (pc := 59) hR ?_ (Nat.le_of_ble_eq_true rfl) (Nat.le_of_ble_eq_true rfl) dX1_requestNow_59
    first | (rw [h1_0]; exact ⟨rfl, rfl⟩) | (rw [h1_1]; exact ⟨rfl, rfl⟩) | (rw [h1_2]; exact ⟨rfl, rfl⟩) | (rw [h1_3]; exact ⟨rfl, rfl⟩) | (rw [h1_4]; exact ⟨rfl, rfl⟩) | (rw [h1_5]; exact ⟨rfl, rfl⟩) | (rw [show wh = 6 by omega]; exact ⟨rfl, rfl⟩)
  · refine g_tableIn hX (pc := 1) (tgt := 60) (off := 59) dX1_requestNow_1 (by rw [h1_4]; decide) (by rw [h1_4]; decide) (by rw [h1_4]; rfl) rfl ?_
    refine g_aload_n hX (pc := 60) dX1_requestNow_60 0 rfl ?_
    refine g_getNm hX (pc := 61) fcX12 (sp_in 0 rfl hm) 0 (by decide) q991 rfl (v := .int (nI (rC r))) rfl dX1_requestNow_61 ?_
    refine g_iret hX (pc := 64) hR ?_ (Nat.le_of_ble_eq_true rfl) (Nat.le_of_ble_eq_true rfl) dX1_requestNow_64
    first | (rw [h1_0]; exact ⟨rfl, rfl⟩) | (rw [h1_1]; exact ⟨rfl, rfl⟩) | (rw [h1_2]; exact ⟨rfl, rfl⟩) | (rw [h1_3]; exact ⟨rfl, rfl⟩) | (rw [h1_4]; exact ⟨rfl, rfl⟩) | (rw [h1_5]; exact ⟨rfl, rfl⟩) | (rw [show wh = 6 by omega]; exact ⟨rfl, rfl⟩)
  · refine g_tableIn hX (pc := 1) (tgt := 65) (off := 64) dX1_requestNow_1 (by rw [h1_5]; decide) (by rw [h1_5]; decide) (by rw [h1_5]; rfl) rfl ?_
    refine g_aload_n hX (pc := 65) dX1_requestNow_65 0 rfl ?_
    refine g_getNm hX (pc := 66) fcX12 (sp_in 0 rfl hm) 1 (by decide) q994 rfl (v := .ref (aK E (rK r))) rfl dX1_requestNow_66 ?_
    refine g_callU hX (pc := 69) (C := "Quorumspire$Kind") (owner := "java/lang/Enum") (x := ⟨"Quorumspire$Kind", "ordinal", "()I"⟩) (y := yJ11_ordinal) (n := 0) q804 q803 q810 q91 q809 rfl ⟨by decide +kernel, by decide +kernel, by decide +kernel⟩ (mt_ordK E l (rK r) (by omega)) q808 (fun H locs hP hS => va_recvE (cx_gs hX).1 (i := (rK r)) (by show _ < 6; omega) hS) [] rfl rfl rfl (Nat.le_of_ble_eq_true rfl) (Nat.le_of_ble_eq_true rfl) (Nat.le_of_ble_eq_true rfl) (Nat.le_of_ble_eq_true rfl) (Nat.le_of_ble_eq_true rfl) dX1_requestNow_69 (fun v w1 hp => ?_)
    obtain ⟨rfl, rfl⟩ := hp
    refine g_nrm (cs1 := [w]) (st1 := [.int (nI (rK r))]) rfl rfl ?_
    refine g_iret hX (pc := 72) hR ?_ (Nat.le_of_ble_eq_true rfl) (Nat.le_of_ble_eq_true rfl) dX1_requestNow_72
    first | (rw [h1_0]; exact ⟨rfl, rfl⟩) | (rw [h1_1]; exact ⟨rfl, rfl⟩) | (rw [h1_2]; exact ⟨rfl, rfl⟩) | (rw [h1_3]; exact ⟨rfl, rfl⟩) | (rw [h1_4]; exact ⟨rfl, rfl⟩) | (rw [h1_5]; exact ⟨rfl, rfl⟩) | (rw [show wh = 6 by omega]; exact ⟨rfl, rfl⟩)
  · have h1_d : 5 < wh := by omega
    refine g_tableOut hX (pc := 1) (tgt := 73) dX1_requestNow_1 (by rw [nI_toInt (by omega)]; omega) rfl ?_
    refine g_aload_n hX (pc := 73) dX1_requestNow_73 0 rfl ?_
    refine g_getNm hX (pc := 74) fcX12 (sp_in 0 rfl hm) 2 (by decide) q1000 rfl (v := .int (nI (rY r))) rfl dX1_requestNow_74 ?_
    refine g_iret hX (pc := 77) hR ?_ (Nat.le_of_ble_eq_true rfl) (Nat.le_of_ble_eq_true rfl) dX1_requestNow_77
    first | (rw [h1_0]; exact ⟨rfl, rfl⟩) | (rw [h1_1]; exact ⟨rfl, rfl⟩) | (rw [h1_2]; exact ⟨rfl, rfl⟩) | (rw [h1_3]; exact ⟨rfl, rfl⟩) | (rw [h1_4]; exact ⟨rfl, rfl⟩) | (rw [h1_5]; exact ⟨rfl, rfl⟩) | (rw [show wh = 6 by omega]; exact ⟨rfl, rfl⟩)

set_option maxHeartbeats 4000000 in
theorem mt_Q_ofRequest (E : EE) (l : Launch) (o : Nat) (n : Nat) (lm : Nat) (lb : Nat) (lr : Nat) (P : PN) (wr : va_W) (wq : va_W) (j : Nat) (r : PR) (wh : Nat) (hRq : RL E lr (nR P) wr wq) (hj : ((nR P)[j]? = some r)) (h40 : ((nR P).length ≤ 40)) (hkd : (rK r < 6)) (hw : (wh < 7)) : Mt E l yX1_ofRequest cX1_ofRequest 4 (some .int) 5 0 0 86 [.ref o, .int (nI j), .int (nI wh)] [[(o, ob 0 [.ref n])], [(n, ob 1 [.ref lm, .ref lb, .ref lr, .int (nLo P), .int (nNow P)])], wr, wq] (fun (v_ : Option Value) (cs_ : List va_W) => v_ = some (.int (oReq r wh)) ∧ cs_ = [[(o, ob 0 [.ref n])], [(n, ob 1 [.ref lm, .ref lb, .ref lr, .int (nLo P), .int (nNow P)])], wr, wq]) := by
  obtain ⟨ras, a, hAr, hrl, hra, hrm⟩ := RL.at hRq hj
  refine Mt.of (by decide) (Nat.le_of_ble_eq_true rfl) (fun X hX hR hin => ?_)
  refine g_lv1 (lv1 := [(0, .ref o), (1, .int (nI j)), (2, .int (nI wh))]) rfl ?_
  refine g_aload_n hX (pc := 0) dX1_ofRequest_0 0 rfl ?_
  refine g_iload_n hX (pc := 1) dX1_ofRequest_1 1 rfl ?_
  refine g_callV hX (pc := 2) kX1_requestAt (mt_Q_requestAt E l o n lm lb lr (nLo P) (nNow P) ras wr wq j a r hAr (hra) (by omega) (hrm)) q1437 fcX1 (sp_mem (i := 0) rfl) [0, 0, 0, 0] rfl rfl rfl (Nat.le_of_ble_eq_true rfl) (Nat.le_of_ble_eq_true rfl) (Nat.le_of_ble_eq_true rfl) (by omega) (by omega) dX1_ofRequest_2 (fun v w1 hp => ?_)
  obtain ⟨rfl, rfl⟩ := hp
  refine g_nrm (cs1 := [[(o, ob 0 [.ref n])], [(n, ob 1 [.ref lm, .ref lb, .ref lr, .int (nLo P), .int (nNow P)])], wr, wq]) (st1 := [.ref a]) rfl rfl ?_
  refine g_astore_n hX (pc := 5) (lv1 := [(3, .ref a), (0, .ref o), (1, .int (nI j)), (2, .int (nI wh))]) dX1_ofRequest_5 (by decide) rfl ?_
  refine g_iload_n hX (pc := 6) dX1_ofRequest_6 3 rfl ?_
  refine g_iconst hX (pc := 7) (v := 0) dX1_ofRequest_7 (by decide) ?_
  refine g_bipush hX (pc := 8) (v := 6) dX1_ofRequest_8 (by decide) ?_
  refine g_callS hX (pc := 10) kX1_mustBeIn (mt_mustBeIn E l (nI wh) 0 6 (show ¬ nI wh < nI 0 from nI_nlt (by omega) (by omega)) (show ¬ nI 6 < nI wh from nI_nlt (by omega) (by omega))) q1308 [] rfl rfl rfl (Nat.le_of_ble_eq_true rfl) (Nat.le_of_ble_eq_true rfl) (Nat.le_of_ble_eq_true rfl) (by omega) (by omega) dX1_ofRequest_10 (fun v w1 hp => ?_)
  obtain ⟨rfl, rfl⟩ := hp
  refine g_nrm (cs1 := [[(o, ob 0 [.ref n])], [(n, ob 1 [.ref lm, .ref lb, .ref lr, .int (nLo P), .int (nNow P)])], wr, wq]) (st1 := []) rfl rfl ?_
  refine g_aload_n hX (pc := 13) dX1_ofRequest_13 0 rfl ?_
  refine g_iload_n hX (pc := 14) dX1_ofRequest_14 3 rfl ?_
  refine g_callS hX (pc := 15) kX1_requestNow (mt_Q_requestNow E l a r wq wh (hrm) (hkd) (hw)) q805 [3] rfl rfl rfl (Nat.le_of_ble_eq_true rfl) (Nat.le_of_ble_eq_true rfl) (Nat.le_of_ble_eq_true rfl) (by omega) (by omega) dX1_ofRequest_15 (fun v w1 hp => ?_)
  obtain ⟨rfl, rfl⟩ := hp
  refine g_nrm (cs1 := [wq, [(o, ob 0 [.ref n])], [(n, ob 1 [.ref lm, .ref lb, .ref lr, .int (nLo P), .int (nNow P)])], wr]) (st1 := [.int (oReq r wh)]) rfl rfl ?_
  refine g_pk [1, 1, 1, 0] rfl ?_
  refine g_cs (cs1 := [[(o, ob 0 [.ref n])], [(n, ob 1 [.ref lm, .ref lb, .ref lr, .int (nLo P), .int (nNow P)])], wr, wq]) rfl ?_
  refine g_iret hX (pc := 18) hR ?_ (by omega) (by omega) dX1_ofRequest_18
  exact ⟨rfl, rfl⟩

set_option maxHeartbeats 4000000 in
theorem mt_Q_isAsOne (E : EE) (l : Launch) (o : Nat) (n : Nat) (lm : Nat) (lb : Nat) (lr : Nat) (P : PN) (wr : va_W) (wq : va_W) (ky : Nat) (hRq : RL E lr (nR P) wr wq) (hrq : (rqOK (nR P))) (hv : (rvOK (nR P))) (hy : (ky < 4)) : Mt E l yX1_isAsOne cX1_isAsOne 2 (some .boolean) 15 43 1445 353 [.ref o, .int (nI ky)] [[(o, ob 0 [.ref n])], [(n, ob 1 [.ref lm, .ref lb, .ref lr, .int (nLo P), .int (nNow P)])], wr, wq] (fun (v_ : Option Value) (cs_ : List va_W) => v_ = some (.int (bI (LIN (hUp (nR P) ky (List.length (nR P))) 0 0))) ∧ cs_ = [[(o, ob 0 [.ref n])], [(n, ob 1 [.ref lm, .ref lb, .ref lr, .int (nLo P), .int (nNow P)])], wr, wq]) := by
  refine Mt.of (by decide) (Nat.le_of_ble_eq_true rfl) (fun X hX hR hin => ?_)
  refine g_lv1 (lv1 := [(0, .ref o), (1, .int (nI ky))]) rfl ?_
  refine g_iload_n hX (pc := 0) dX1_isAsOne_0 1 rfl ?_
  refine g_iconst hX (pc := 1) (v := 4) dX1_isAsOne_1 (by decide) ?_
  refine g_callS hX (pc := 2) kX1_checkPlace (mt_checkPlace E l (nI ky) 4 (nI_pos (by omega)) (show nI ky < nI 4 from nI_lt hy (by omega))) q1364 [] rfl rfl rfl (Nat.le_of_ble_eq_true rfl) (Nat.le_of_ble_eq_true rfl) (Nat.le_of_ble_eq_true rfl) (by omega) (by omega) dX1_isAsOne_2 (fun v w1 hp => ?_)
  obtain ⟨rfl, rfl⟩ := hp
  refine g_nrm (cs1 := [[(o, ob 0 [.ref n])], [(n, ob 1 [.ref lm, .ref lb, .ref lr, .int (nLo P), .int (nNow P)])], wr, wq]) (st1 := []) rfl rfl ?_
  refine g_new hX (pc := 5) fcX16 q1560 q260 q106 (fs := [.null, .null]) (fun j hj => by match j, hj with | 0, _ => rfl | 1, _ => rfl | j + 2, h => exact absurd h (by omega)) (by omega) (by omega) dX1_isAsOne_5 (fun q1 => ?_)
  refine g_dup hX (pc := 8) dX1_isAsOne_8 rfl ?_
  refine g_aload_n hX (pc := 9) dX1_isAsOne_9 0 rfl ?_
  refine g_get hX (pc := 10) fcX1 1 rfl 0 (by decide) q176 rfl (v := .ref n) rfl dX1_isAsOne_10 ?_
  refine g_getN hX (pc := 13) fcX2 2 rfl 2 (by decide) q160 rfl (v := .ref lr) rfl dX1_isAsOne_13 ?_
  refine g_iload_n hX (pc := 16) dX1_isAsOne_16 1 rfl ?_
  refine g_callI hX (pc := 17) kX16_init (mt_History_init E l q1 lr (nR P) wr wq ky hRq (hrq) (hy)) q1561 [0, 2, 2] rfl rfl rfl (Nat.le_of_ble_eq_true rfl) (Nat.le_of_ble_eq_true rfl) (Nat.le_of_ble_eq_true rfl) (by omega) (by omega) dX1_isAsOne_17 (fun v w1 hp => ?_)
  obtain ⟨ha2, tr3, w14, h5, rfl, rfl⟩ := hp
  refine g_nrm (cs1 := [[(q1, ob 14 [.ref ha2, .ref tr3])], [(tr3, lA (aC E 1) 400 (fun _ => 0))], w14, wr, wq, [(o, ob 0 [.ref n])], [(n, ob 1 [.ref lm, .ref lb, .ref lr, .int (nLo P), .int (nNow P)])]]) (st1 := [.ref q1]) rfl rfl ?_
  refine g_callV hX (pc := 20) kX16_isAsOne (mt_History_isAsOne E l q1 ha2 tr3 (fun _ => 0) (hUp (nR P) ky (List.length (nR P))) w14 wq h5 (hUp_ok hrq hv ky _ (Nat.le_refl _)) (TI.zero _)) q1562 fcX16 (sp_mem (i := 0) rfl) [0, 0, 0, 1] rfl rfl rfl (Nat.le_of_ble_eq_true rfl) (Nat.le_of_ble_eq_true rfl) (Nat.le_of_ble_eq_true rfl) (by omega) (by omega) dX1_isAsOne_20 (fun v w1 hp => ?_)
  obtain ⟨f16, rfl, rfl⟩ := hp
  refine g_nrm (cs1 := [[(q1, ob 14 [.ref ha2, .ref tr3])], [(tr3, lA (aC E 1) 400 f16)], w14, wq, wr, [(o, ob 0 [.ref n])], [(n, ob 1 [.ref lm, .ref lb, .ref lr, .int (nLo P), .int (nNow P)])]]) (st1 := [.int (bI (LIN (hUp (nR P) ky (List.length (nR P))) 0 0))]) rfl rfl ?_
  refine g_drop (cs1 := [[(tr3, lA (aC E 1) 400 f16)], w14, wq, wr, [(o, ob 0 [.ref n])], [(n, ob 1 [.ref lm, .ref lb, .ref lr, .int (nLo P), .int (nNow P)])]]) [0] rfl ?_
  refine g_drop (cs1 := [w14, wq, wr, [(o, ob 0 [.ref n])], [(n, ob 1 [.ref lm, .ref lb, .ref lr, .int (nLo P), .int (nNow P)])]]) [0] rfl ?_
  refine g_drop (cs1 := [wq, wr, [(o, ob 0 [.ref n])], [(n, ob 1 [.ref lm, .ref lb, .ref lr, .int (nLo P), .int (nNow P)])]]) [0] rfl ?_
  refine g_pk [2, 2, 1, 0] rfl ?_
  refine g_cs (cs1 := [[(o, ob 0 [.ref n])], [(n, ob 1 [.ref lm, .ref lb, .ref lr, .int (nLo P), .int (nNow P)])], wr, wq]) rfl ?_
  refine g_zret hX (pc := 23) hR (bI_n _) ?_ (by omega) (by omega) dX1_isAsOne_23
  exact ⟨rfl, rfl⟩

set_option maxHeartbeats 4000000 in
theorem mt_Q_breaks (E : EE) (l : Launch) (o : Nat) (n : Nat) (lm : Nat) (lb : Nat) (lr : Nat) (P : PN) (wm : va_W) (wM : va_W) (wr : va_W) (wq : va_W) (fz : va_W) (b : Nat) (hML : ML E fz lm (nM P) wm wM) (hRq : RL E lr (nR P) wr wq) (hP : (nOK b P)) (hb : (b ≤ 1000)) (hv : (rvOK (nR P))) : Mt E l yX1_breaks cX1_breaks 1 (some .int) 16 172 5780 376 [.ref o] [[(o, ob 0 [.ref n])], [(n, ob 1 [.ref lm, .ref lb, .ref lr, .int (nLo P), .int (nNow P)])], wm, wM, wr, wq, fz] (fun (v_ : Option Value) (cs_ : List va_W) => v_ = some (.int (brkN P)) ∧ cs_ = [[(o, ob 0 [.ref n])], [(n, ob 1 [.ref lm, .ref lb, .ref lr, .int (nLo P), .int (nNow P)])], wm, wM, wr, wq, fz]) := by
  refine Mt.of (by decide) (Nat.le_of_ble_eq_true rfl) (fun X hX hR hin => ?_)
  refine g_lv1 (lv1 := [(0, .ref o)]) rfl ?_
  refine g_aload_n hX (pc := 0) dX1_breaks_0 0 rfl ?_
  refine g_get hX (pc := 1) fcX1 0 rfl 0 (by decide) q176 rfl (v := .ref n) rfl dX1_breaks_1 ?_
  refine g_callV hX (pc := 4) kX2_breaks (mt_Net_breaks E l n lm lb lr P wm wM wr wq fz b hML hRq (hP) (hb) (hv)) q184 fcX2 (sp_mem (i := 1) rfl) [1, 1, 1, 1, 1, 1] rfl rfl rfl (Nat.le_of_ble_eq_true rfl) (Nat.le_of_ble_eq_true rfl) (Nat.le_of_ble_eq_true rfl) (by omega) (by omega) dX1_breaks_4 (fun v w1 hp => ?_)
  obtain ⟨rfl, rfl⟩ := hp
  refine g_nrm (cs1 := [[(n, ob 1 [.ref lm, .ref lb, .ref lr, .int (nLo P), .int (nNow P)])], wm, wM, wr, wq, fz, [(o, ob 0 [.ref n])]]) (st1 := [.int (brkN P)]) rfl rfl ?_
  refine g_pk [6, 0, 0, 0, 0, 0, 0] rfl ?_
  refine g_cs (cs1 := [[(o, ob 0 [.ref n])], [(n, ob 1 [.ref lm, .ref lb, .ref lr, .int (nLo P), .int (nNow P)])], wm, wM, wr, wq, fz]) rfl ?_
  refine g_iret hX (pc := 7) hR ?_ (by omega) (by omega) dX1_breaks_7
  exact ⟨rfl, rfl⟩

set_option maxHeartbeats 4000000 in
theorem mt_Q_many (E : EE) (l : Launch) (o : Nat) (n : Nat) (lm : Nat) (lb : Nat) (lr : Nat) (P : PN) (wm : va_W) (wM : va_W) (wb : va_W) (wr : va_W) (wq : va_W) (fz : va_W) (wh : Nat) (b : Nat) (hML : ML E fz lm (nM P) wm wM) (hB : BL E fz lb (nB P) wb) (hRq : RL E lr (nR P) wr wq) (h5 : ((nM P).length ≤ 5)) (h40 : ((nR P).length ≤ 40)) (hsb : (∀ (k : Nat) (M : PM), (nM P)[k]? = some M → mSu M ≤ b)) (hb : (b ≤ 1000)) (hw : (wh < 11)) : Mt E l yX1_many cX1_many 2 (some .int) 7 0 0 130 [.ref o, .int (nI wh)] [[(o, ob 0 [.ref n])], [(n, ob 1 [.ref lm, .ref lb, .ref lr, .int (nLo P), .int (nNow P)])], wm, wM, wb, wr, wq] (fun (v_ : Option Value) (cs_ : List va_W) => v_ = some (.int (oMany P wh)) ∧ cs_ = [[(o, ob 0 [.ref n])], [(n, ob 1 [.ref lm, .ref lb, .ref lr, .int (nLo P), .int (nNow P)])], wm, wM, wb, wr, wq]) := by
  refine Mt.of (by decide) (Nat.le_of_ble_eq_true rfl) (fun X hX hR hin => ?_)
  refine g_lv1 (lv1 := [(0, .ref o), (1, .int (nI wh))]) rfl ?_
  refine g_iload_n hX (pc := 0) dX1_many_0 1 rfl ?_
  refine g_iconst hX (pc := 1) (v := 0) dX1_many_1 (by decide) ?_
  refine g_bipush hX (pc := 2) (v := 10) dX1_many_2 (by decide) ?_
  refine g_callS hX (pc := 4) kX1_mustBeIn (mt_mustBeIn E l (nI wh) 0 10 (show ¬ nI wh < nI 0 from nI_nlt (by omega) (by omega)) (show ¬ nI 10 < nI wh from nI_nlt (by omega) (by omega))) q1308 [] rfl rfl rfl (Nat.le_of_ble_eq_true rfl) (Nat.le_of_ble_eq_true rfl) (Nat.le_of_ble_eq_true rfl) (by omega) (by omega) dX1_many_4 (fun v w1 hp => ?_)
  obtain ⟨rfl, rfl⟩ := hp
  refine g_nrm (cs1 := [[(o, ob 0 [.ref n])], [(n, ob 1 [.ref lm, .ref lb, .ref lr, .int (nLo P), .int (nNow P)])], wm, wM, wb, wr, wq]) (st1 := []) rfl rfl ?_
  refine g_aload_n hX (pc := 7) dX1_many_7 0 rfl ?_
  refine g_get hX (pc := 8) fcX1 0 rfl 0 (by decide) q176 rfl (v := .ref n) rfl dX1_many_8 ?_
  refine g_iload_n hX (pc := 11) dX1_many_11 1 rfl ?_
  refine g_callV hX (pc := 12) kX2_many (mt_Net_many E l n lm lb lr P wm wM wb wr wq fz wh b hML hB hRq (h5) (h40) (hsb) (hb) (hw)) q748 fcX2 (sp_mem (i := 1) rfl) [1, 1, 1, 1, 1, 1] rfl rfl rfl (Nat.le_of_ble_eq_true rfl) (Nat.le_of_ble_eq_true rfl) (Nat.le_of_ble_eq_true rfl) (by omega) (by omega) dX1_many_12 (fun v w1 hp => ?_)
  obtain ⟨rfl, rfl⟩ := hp
  refine g_nrm (cs1 := [[(n, ob 1 [.ref lm, .ref lb, .ref lr, .int (nLo P), .int (nNow P)])], wm, wM, wb, wr, wq, [(o, ob 0 [.ref n])]]) (st1 := [.int (oMany P wh)]) rfl rfl ?_
  refine g_pk [6, 0, 0, 0, 0, 0, 0] rfl ?_
  refine g_cs (cs1 := [[(o, ob 0 [.ref n])], [(n, ob 1 [.ref lm, .ref lb, .ref lr, .int (nLo P), .int (nNow P)])], wm, wM, wb, wr, wq]) rfl ?_
  refine g_iret hX (pc := 15) hR ?_ (by omega) (by omega) dX1_many_15
  exact ⟨rfl, rfl⟩

set_option maxHeartbeats 4000000 in
theorem mt_Q_meanWait (E : EE) (l : Launch) (o : Nat) (n : Nat) (lm : Nat) (lb : Nat) (lr : Nat) (P : PN) (wr : va_W) (wq : va_W) (hRq : RL E lr (nR P) wr wq) (h40 : ((nR P).length ≤ 40)) : Mt E l yX1_meanWait cX1_meanWait 5 (some .double) 4 0 0 65 [.ref o] [[(o, ob 0 [.ref n])], [(n, ob 1 [.ref lm, .ref lb, .ref lr, .int (nLo P), .int (nNow P)])], wr, wq] (fun (v_ : Option Value) (cs_ : List va_W) => v_ = some (.double (mWait (nR P))) ∧ cs_ = [[(o, ob 0 [.ref n])], [(n, ob 1 [.ref lm, .ref lb, .ref lr, .int (nLo P), .int (nNow P)])], wr, wq]) := by
  have hcl := cntAn_le (nR P)
  have hcz : nI (cntAn (nR P) (List.length (nR P))) = 0 ↔ cntAn (nR P) (List.length (nR P)) = 0 := by rw [← nI_0, nI_eq (by have := hcl (nR P).length; omega) (by omega)]
  refine Mt.of (by decide) (Nat.le_of_ble_eq_true rfl) (fun X hX hR hin => ?_)
  refine g_lv1 (lv1 := [(0, .ref o)]) rfl ?_
  refine g_iconst hX (pc := 0) (v := 0) dX1_meanWait_0 (by decide) ?_
  refine g_eqi (sumW (nR P) 0) (rfl) ?_
  refine g_istore_n hX (pc := 1) (lv1 := [(1, .int (sumW (nR P) 0)), (0, .ref o)]) dX1_meanWait_1 (by decide) rfl ?_
  refine g_iconst hX (pc := 2) (v := 0) dX1_meanWait_2 (by decide) ?_
  refine g_eqi (nI (cntAn (nR P) 0)) (nI_0.symm) ?_
  refine g_istore_n hX (pc := 3) (lv1 := [(2, .int (nI (cntAn (nR P) 0))), (1, .int (sumW (nR P) 0)), (0, .ref o)]) dX1_meanWait_3 (by decide) rfl ?_
  refine g_iconst hX (pc := 4) (v := 0) dX1_meanWait_4 (by decide) ?_
  refine g_eqi (nI 0) (nI_0.symm) ?_
  refine g_istore_n hX (pc := 5) (lv1 := [(3, .int (nI 0)), (2, .int (nI (cntAn (nR P) 0))), (1, .int (sumW (nR P) 0)), (0, .ref o)]) dX1_meanWait_5 (by decide) rfl ?_
  have lp1 : ∀ (F1 : Nat) (i : Nat), List.length (nR P) - i < F1 → (i ≤ (nR P).length) → G E l X [[(o, ob 0 [.ref n])], [(n, ob 1 [.ref lm, .ref lb, .ref lr, .int (nLo P), .int (nNow P)])], wr, wq] 0 0 6 [(3, .int (nI i)), (1, .int (sumW (nR P) i)), (2, .int (nI (cntAn (nR P) i))), (0, .ref o)] [] := by
    intro F1
    induction F1 with
    | zero =>
      intro i hF hi
      exact absurd hF (Nat.not_lt_zero _)
    | succ F1 ih1 =>
      intro i hF hi
      refine g_iload_n hX (pc := 6) dX1_meanWait_6 0 rfl ?_
      refine g_aload_n hX (pc := 7) dX1_meanWait_7 3 rfl ?_
      refine g_get hX (pc := 8) fcX1 0 rfl 0 (by decide) q176 rfl (v := .ref n) rfl dX1_meanWait_8 ?_
      refine g_getN hX (pc := 11) fcX2 1 rfl 2 (by decide) q160 rfl (v := .ref lr) rfl dX1_meanWait_11 ?_
      obtain ⟨as2, hal3, hln4⟩ := RL.al hRq
      obtain ⟨fs5, hm6⟩ := AL.head hal3
      refine g_callF hX (pc := 14) kfJ2_size (mt_AL_size E l lr as2 wr hal3) q738 fcJ2 (sp_in 2 rfl hm6) [2] rfl rfl rfl (Nat.le_of_ble_eq_true rfl) (Nat.le_of_ble_eq_true rfl) (Nat.le_of_ble_eq_true rfl) (by omega) (by omega) dX1_meanWait_14 (fun v w1 hp => ?_)
      obtain ⟨rfl, rfl⟩ := hp
      refine g_nrm (cs1 := [wr, [(o, ob 0 [.ref n])], [(n, ob 1 [.ref lm, .ref lb, .ref lr, .int (nLo P), .int (nNow P)])], wq]) (st1 := [.int (nI (List.length as2)), .int (nI i)]) rfl rfl ?_
      refine g_eqi (nI (List.length (nR P))) (by rw [hln4]) ?_
      refine g_icmp_ge hX (pc := 19) (tgt := 71) dX1_meanWait_19 rfl (fun c7 => ?_) (fun c7 => ?_)
      · have d1 : i = (nR P).length := by
          have := (nI_leI (by omega) (by omega)).mp c7
          omega
        subst d1
        refine g_iload_n hX (pc := 71) dX1_meanWait_71 2 rfl ?_
        refine g_if_ne hX (pc := 72) (tgt := 79) dX1_meanWait_72 rfl (fun c8 => ?_) (fun c8 => ?_)
        · have hz0 : ¬ cntAn (nR P) (List.length (nR P)) = 0 := mt hcz.mpr c8
          refine g_iload_n hX (pc := 79) dX1_meanWait_79 1 rfl ?_
          refine g_i2d hX (pc := 80) dX1_meanWait_80 ?_
          refine g_iload_n hX (pc := 81) dX1_meanWait_81 2 rfl ?_
          refine g_i2d hX (pc := 82) dX1_meanWait_82 ?_
          refine g_ddiv hX (pc := 83) dX1_meanWait_83 (dv_ok (mt hcz.mp hz0)) ?_
          refine g_pk [1, 1, 0, 0] rfl ?_
          refine g_cs (cs1 := [[(o, ob 0 [.ref n])], [(n, ob 1 [.ref lm, .ref lb, .ref lr, .int (nLo P), .int (nNow P)])], wr, wq]) rfl ?_
          refine g_dret hX (pc := 84) hR ?_ (by omega) (by omega) dX1_meanWait_84
          unfold mWait
          rw [if_neg hz0]
          exact ⟨rfl, rfl⟩
        · have hz0 : cntAn (nR P) (List.length (nR P)) = 0 := hcz.mp c8
          refine g_dconst0 hX (pc := 75) dX1_meanWait_75 ?_
          refine g_goto hX (pc := 76) (tgt := 84) dX1_meanWait_76 rfl ?_
          refine g_pk [1, 1, 0, 0] rfl ?_
          refine g_cs (cs1 := [[(o, ob 0 [.ref n])], [(n, ob 1 [.ref lm, .ref lb, .ref lr, .int (nLo P), .int (nNow P)])], wr, wq]) rfl ?_
          refine g_dret hX (pc := 84) hR ?_ (by omega) (by omega) dX1_meanWait_84
          unfold mWait
          rw [if_pos hz0]
          exact ⟨rfl, rfl⟩
      · have d1 : i < (nR P).length := by
          have := mt (nI_leI (by omega) (by omega)).mpr c7
          omega
        refine g_aload_n hX (pc := 22) dX1_meanWait_22 3 rfl ?_
        refine g_get hX (pc := 23) fcX1 1 rfl 0 (by decide) q176 rfl (v := .ref n) rfl dX1_meanWait_23 ?_
        refine g_getN hX (pc := 26) fcX2 2 rfl 2 (by decide) q160 rfl (v := .ref lr) rfl dX1_meanWait_26 ?_
        refine g_iload_n hX (pc := 29) dX1_meanWait_29 0 rfl ?_
        obtain ⟨r15, hgr15⟩ := get_ex (l := (nR P)) (i := i) (d1)
        obtain ⟨ras9, a10, hAr11, hrl12, hra13, hrm14⟩ := RL.at hRq hgr15
        refine g_callF hX (pc := 30) kfJ2_get (mt_AL_get E l lr ras9 wr i a10 hAr11 (hra13)) q740 fcJ2 (sp_in 0 rfl hm6) [0] rfl rfl rfl (Nat.le_of_ble_eq_true rfl) (Nat.le_of_ble_eq_true rfl) (Nat.le_of_ble_eq_true rfl) (by omega) (by omega) dX1_meanWait_30 (fun v w1 hp => ?_)
        obtain ⟨rfl, rfl⟩ := hp
        refine g_nrm (cs1 := [wr, [(o, ob 0 [.ref n])], [(n, ob 1 [.ref lm, .ref lb, .ref lr, .int (nLo P), .int (nNow P)])], wq]) (st1 := [.ref a10]) rfl rfl ?_
        refine g_cast hX (pc := 35) fcX12 (sp_in 3 rfl hrm14) q741 dX1_meanWait_35 ?_
        refine g_astore hX (pc := 38) (lv1 := [(4, .ref a10), (3, .int (nI i)), (1, .int (sumW (nR P) i)), (2, .int (nI (cntAn (nR P) i))), (0, .ref o)]) dX1_meanWait_38 (by decide) rfl ?_
        refine g_aload hX (pc := 40) dX1_meanWait_40 0 rfl ?_
        refine g_callV hX (pc := 42) kX12_isAnswered (mt_Request_isAnsweredM E l a10 r15 wq (hrm14)) q742 fcX12 (sp_in 3 rfl hrm14) [3] rfl rfl rfl (Nat.le_of_ble_eq_true rfl) (Nat.le_of_ble_eq_true rfl) (Nat.le_of_ble_eq_true rfl) (by omega) (by omega) dX1_meanWait_42 (fun v w1 hp => ?_)
        obtain ⟨rfl, rfl⟩ := hp
        refine g_nrm (cs1 := [wq, wr, [(o, ob 0 [.ref n])], [(n, ob 1 [.ref lm, .ref lb, .ref lr, .int (nLo P), .int (nNow P)])]]) (st1 := [.int (if rAns r15 = (-1) then 0 else 1)]) rfl rfl ?_
        refine g_if_eq hX (pc := 45) (tgt := 65) dX1_meanWait_45 rfl (fun c16_ => ?_) (fun c16_ => ?_)
        · have c16 := z01.mp c16_
          have ht17 : sumW (nR P) (i + 1) = sumW (nR P) i := by show (if rAns (hG (nR P) i) = (-1) then sumW (nR P) i else _) = _; rw [hG_e hgr15, if_pos c16]
          refine g_lv1 (lv1 := [(4, .ref a10), (3, .int (nI i)), (1, .int (sumW (nR P) (i + 1))), (2, .int (nI (cntAn (nR P) i))), (0, .ref o)]) (by rw [ht17]) ?_
          have ht18 : nI (cntAn (nR P) (i + 1)) = nI (cntAn (nR P) i) := by rw [← cntAn_s hgr15, if_pos c16]; exact Int32.add_zero _
          refine g_lv1 (lv1 := [(4, .ref a10), (3, .int (nI i)), (1, .int (sumW (nR P) (i + 1))), (2, .int (nI (cntAn (nR P) (i + 1)))), (0, .ref o)]) (by rw [ht18]) ?_
          refine g_iinc hX (pc := 65) (v := nI (i + 1)) (lv1 := [(3, .int (nI (i + 1))), (4, .ref a10), (1, .int (sumW (nR P) (i + 1))), (2, .int (nI (cntAn (nR P) (i + 1)))), (0, .ref o)]) dX1_meanWait_65 1 rfl (nI_1 _) (by decide) rfl ?_
          refine g_goto hX (pc := 68) (tgt := 6) dX1_meanWait_68 rfl ?_
          refine g_pk [2, 2, 1, 0] rfl ?_
          refine g_cs (cs1 := [[(o, ob 0 [.ref n])], [(n, ob 1 [.ref lm, .ref lb, .ref lr, .int (nLo P), .int (nNow P)])], wr, wq]) rfl ?_
          refine g_lv (lv1 := [(3, .int (nI (i + 1))), (1, .int (sumW (nR P) (i + 1))), (2, .int (nI (cntAn (nR P) (i + 1)))), (0, .ref o)]) [0, 2, 3, 4] rfl ?_
          refine g_widen (kc1 := 0) (ks1 := 0) (by omega) (by omega) ?_
          exact ih1 (i + 1) (by omega) (by omega)
        · have c16 := z01n.mp c16_
          refine g_iload_n hX (pc := 48) dX1_meanWait_48 2 rfl ?_
          refine g_aload hX (pc := 49) dX1_meanWait_49 0 rfl ?_
          refine g_getNm hX (pc := 51) fcX12 (sp_in 0 rfl hrm14) 7 (by decide) q1013 rfl (v := .int (rAns r15)) rfl dX1_meanWait_51 ?_
          refine g_aload hX (pc := 54) dX1_meanWait_54 0 rfl ?_
          refine g_getNm hX (pc := 56) fcX12 (sp_in 0 rfl hrm14) 6 (by decide) q1010 rfl (v := .int (rSent r15)) rfl dX1_meanWait_56 ?_
          refine g_isub hX (pc := 59) dX1_meanWait_59 ?_
          refine g_iadd hX (pc := 60) dX1_meanWait_60 ?_
          refine g_eqi (sumW (nR P) (i + 1)) (by show _ = (if rAns (hG (nR P) i) = (-1) then sumW (nR P) i else _); rw [hG_e hgr15, if_neg c16]) ?_
          refine g_istore_n hX (pc := 61) (lv1 := [(1, .int (sumW (nR P) (i + 1))), (4, .ref a10), (3, .int (nI i)), (2, .int (nI (cntAn (nR P) i))), (0, .ref o)]) dX1_meanWait_61 (by decide) rfl ?_
          refine g_iinc hX (pc := 62) (v := nI ((cntAn (nR P) i) + 1)) (lv1 := [(2, .int (nI ((cntAn (nR P) i) + 1))), (1, .int (sumW (nR P) (i + 1))), (4, .ref a10), (3, .int (nI i)), (0, .ref o)]) dX1_meanWait_62 3 rfl (nI_1 _) (by decide) rfl ?_
          refine g_lv1 (lv1 := [(2, .int (nI (cntAn (nR P) (i + 1)))), (1, .int (sumW (nR P) (i + 1))), (4, .ref a10), (3, .int (nI i)), (0, .ref o)]) (by rw [← cntAn_s hgr15, if_neg c16, nI_1]) ?_
          refine g_iinc hX (pc := 65) (v := nI (i + 1)) (lv1 := [(3, .int (nI (i + 1))), (2, .int (nI (cntAn (nR P) (i + 1)))), (1, .int (sumW (nR P) (i + 1))), (4, .ref a10), (0, .ref o)]) dX1_meanWait_65 3 rfl (nI_1 _) (by decide) rfl ?_
          refine g_goto hX (pc := 68) (tgt := 6) dX1_meanWait_68 rfl ?_
          refine g_pk [2, 2, 1, 0] rfl ?_
          refine g_cs (cs1 := [[(o, ob 0 [.ref n])], [(n, ob 1 [.ref lm, .ref lb, .ref lr, .int (nLo P), .int (nNow P)])], wr, wq]) rfl ?_
          refine g_lv (lv1 := [(3, .int (nI (i + 1))), (1, .int (sumW (nR P) (i + 1))), (2, .int (nI (cntAn (nR P) (i + 1)))), (0, .ref o)]) [0, 2, 1, 4] rfl ?_
          refine g_widen (kc1 := 0) (ks1 := 0) (by omega) (by omega) ?_
          exact ih1 (i + 1) (by omega) (by omega)
  refine g_lv (lv1 := [(3, .int (nI 0)), (1, .int (sumW (nR P) 0)), (2, .int (nI (cntAn (nR P) 0))), (0, .ref o)]) [0, 2, 1, 3] rfl ?_
  refine g_widen (kc1 := 0) (ks1 := 0) (by omega) (by omega) ?_
  exact lp1 ((List.length (nR P) - 0) + 1) 0 (Nat.lt_succ_self _) (Nat.zero_le _)

set_option maxHeartbeats 4000000 in
theorem mt_Q_savedTo (E : EE) (l : Launch) (o : Nat) (n : Nat) (lm : Nat) (lb : Nat) (lr : Nat) (P : PN) (wm : va_W) (wM : va_W) (fz : va_W) (k : Nat) (hML : ML E fz lm (nM P) wm wM) (h5 : ((nM P).length ≤ 5)) (hk : (k < (nM P).length)) : Mt E l yX1_savedTo cX1_savedTo 2 (some .int) 6 0 0 107 [.ref o, .int (nI k)] [[(o, ob 0 [.ref n])], [(n, ob 1 [.ref lm, .ref lb, .ref lr, .int (nLo P), .int (nNow P)])], wm, wM] (fun (v_ : Option Value) (cs_ : List va_W) => v_ = some (.int (nI (lLast (mV (mAt P k))))) ∧ cs_ = [[(o, ob 0 [.ref n])], [(n, ob 1 [.ref lm, .ref lb, .ref lr, .int (nLo P), .int (nNow P)])], wm, wM]) := by
  refine Mt.of (by decide) (Nat.le_of_ble_eq_true rfl) (fun X hX hR hin => ?_)
  refine g_lv1 (lv1 := [(0, .ref o), (1, .int (nI k))]) rfl ?_
  refine g_aload_n hX (pc := 0) dX1_savedTo_0 0 rfl ?_
  refine g_iload_n hX (pc := 1) dX1_savedTo_1 1 rfl ?_
  obtain ⟨M7, hgM7⟩ := get_ex (l := (nM P)) (i := k) (hk)
  obtain ⟨mas1, m2, hAm3, hml4, hmk5, hMI6⟩ := ML.at hML hgM7
  obtain ⟨rn8, rk9, rl10, rs11, rst12, la13, sp14, lb15, sp216, fn17, fk18, m019, arr20, m121, arr122, h123, h224, h325, h426, h527, h628, h729, hn30⟩ := hMI6.peek
  refine g_callV hX (pc := 2) kX1_machineAt (mt_Q_machineAtI E l o n lm lb lr (nLo P) (nNow P) mas1 wm k m2 M7 fz wM hAm3 hMI6 (hmk5) (by omega)) q1360 fcX1 (sp_mem (i := 0) rfl) [0, 0, 0, 0] rfl rfl rfl (Nat.le_of_ble_eq_true rfl) (Nat.le_of_ble_eq_true rfl) (Nat.le_of_ble_eq_true rfl) (by omega) (by omega) dX1_savedTo_2 (fun v w1 hp => ?_)
  obtain ⟨rfl, rfl⟩ := hp
  refine g_nrm (cs1 := [[(o, ob 0 [.ref n])], [(n, ob 1 [.ref lm, .ref lb, .ref lr, .int (nLo P), .int (nNow P)])], wm, wM]) (st1 := [.ref m2]) rfl rfl ?_
  refine g_getNm hX (pc := 5) fcX9 (sp_in 3 rfl h123) 4 (by decide) q936 rfl (v := .ref rs11) rfl dX1_savedTo_5 ?_
  refine g_callV hX (pc := 8) kX10_last (mt_Log_lastM E l rs11 lb15 (lT (mV M7)) (lV (mV M7)) (lB (mV M7)) (lBT (mV M7)) sp216 m121 arr122 (List.length (lE (mV M7))) wM (h628) (h729)) q781 fcX10 (sp_in 3 rfl h628) [3] rfl rfl rfl (Nat.le_of_ble_eq_true rfl) (Nat.le_of_ble_eq_true rfl) (Nat.le_of_ble_eq_true rfl) (by omega) (by omega) dX1_savedTo_8 (fun v w1 hp => ?_)
  obtain ⟨rfl, rfl⟩ := hp
  refine g_nrm (cs1 := [wM, [(o, ob 0 [.ref n])], [(n, ob 1 [.ref lm, .ref lb, .ref lr, .int (nLo P), .int (nNow P)])], wm]) (st1 := [.int (nI ((lB (mV M7)) + (List.length (lE (mV M7)))))]) rfl rfl ?_
  refine g_pk [1, 1, 1, 0] rfl ?_
  refine g_cs (cs1 := [[(o, ob 0 [.ref n])], [(n, ob 1 [.ref lm, .ref lb, .ref lr, .int (nLo P), .int (nNow P)])], wm, wM]) rfl ?_
  refine g_iret hX (pc := 11) hR ?_ (by omega) (by omega) dX1_savedTo_11
  rw [mAt_get hgM7]
  exact ⟨rfl, rfl⟩
