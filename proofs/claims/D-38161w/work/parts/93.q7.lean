set_option maxHeartbeats 4000000 in
theorem mt_Q_digest (E : EE) (l : Launch) (o : Nat) (n : Nat) (lm : Nat) (lb : Nat) (lr : Nat) (P : PN) (wm : va_W) (wM : va_W) (wb : va_W) (wr : va_W) (wq : va_W) (fz : va_W) (hML : ML E fz lm (nM P) wm wM) (hB : BL E fz lb (nB P) wb) (hRq : RL E lr (nR P) wr wq) (hP : (nInv 31 P)) (hv : (rvOK (nR P))) : Mt E l yX1_digest cX1_digest 5 (some .long) 16 (172 + 1277 * (List.length (nM P) + rqN P)) (5780 + 24744 * (List.length (nM P) + rqN P)) 376 [.ref o] [[(o, ob 0 [.ref n])], [(n, ob 1 [.ref lm, .ref lb, .ref lr, .int (nLo P), .int (nNow P)])], wm, wM, wb, wr, wq, fz] (fun (v_ : Option Value) (cs_ : List va_W) => ∃ (fz1 : va_W) (w1 : va_W), Ext E fz fz1 ∧ ML E fz1 lm (nM P) wm w1 ∧ BL E fz1 lb (nB P) wb ∧ v_ = some (.long (digN P)) ∧ cs_ = [[(o, ob 0 [.ref n])], [(n, ob 1 [.ref lm, .ref lb, .ref lr, .int (nLo P), .int (nNow P)])], wm, w1, wb, wr, wq, fz1]) := by
  have hP0 := hP
  obtain ⟨b0, hb0, hb1⟩ := hP0
  have h5 := hb0.1
  have hn30 := hb0.2.1
  have hrq2 := hb0.2.2.1
  have h40 := hrq2.1
  have hsb : ∀ (k : Nat) (M : PM), (nM P)[k]? = some M → mSu M ≤ b0 := fun k M h => (hb0.2.2.2.1 k M h).1.2.2.1.2.2.1
  have hmk : ∀ k, k < (nM P).length → lLast (mL (mAt P k)) ≤ 1000 ∧ lLast (mV (mAt P k)) ≤ 1000 := by
    intro k hk
    obtain ⟨M, hM⟩ := get_ex hk
    rw [mAt_get hM]
    have := (hb0.2.2.2.1 k M hM).1.2.1
    omega
  refine Mt.of (by decide) (Nat.le_of_ble_eq_true rfl) (fun X hX hR hin => ?_)
  refine g_lv1 (lv1 := [(0, .ref o)]) rfl ?_
  refine g_ldc2 hX (pc := 0) (v := 58161) q747 dX1_digest_0 ?_
  refine g_eql (dgA P 0) (rfl) ?_
  refine g_lstore_n hX (pc := 3) (lv1 := [(1, .long (dgA P 0)), (0, .ref o)]) dX1_digest_3 (by decide) rfl ?_
  refine g_iconst hX (pc := 4) (v := 0) dX1_digest_4 (by decide) ?_
  refine g_eqi (nI 0) (nI_0.symm) ?_
  refine g_istore_n hX (pc := 5) (lv1 := [(3, .int (nI 0)), (1, .long (dgA P 0)), (0, .ref o)]) dX1_digest_5 (by decide) rfl ?_
  have lp1 : ∀ (F1 : Nat) (i : Nat), 11 - i < F1 → (i ≤ 11) → G E l X [[(o, ob 0 [.ref n])], [(n, ob 1 [.ref lm, .ref lb, .ref lr, .int (nLo P), .int (nNow P)])], wm, wM, wb, wr, wq, fz] 0 0 6 [(3, .int (nI i)), (1, .long (dgA P i)), (0, .ref o)] [] := by
    intro F1
    induction F1 with
    | zero =>
      intro i hF hi
      exact absurd hF (Nat.not_lt_zero _)
    | succ F1 ih1 =>
      intro i hF hi
      refine g_iload_n hX (pc := 6) dX1_digest_6 0 rfl ?_
      refine g_bipush hX (pc := 7) (v := 10) dX1_digest_7 (by decide) ?_
      refine g_icmp_gt hX (pc := 9) (tgt := 31) dX1_digest_9 rfl (fun c2 => ?_) (fun c2 => ?_)
      · have d1 : i = 11 := by
          have h1 := c2
          rw [show (10 : Int32) = nI 10 from rfl] at h1
          have := (nI_ltI (by omega) (by omega)).mp h1
          omega
        refine g_lv1 (lv1 := [(3, .int (nI i)), (1, .long (dgB P 0)), (0, .ref o)]) (by rw [d1]; rfl) ?_
        refine g_iconst hX (pc := 31) (v := 0) dX1_digest_31 (by decide) ?_
        refine g_eqi (nI 0) (nI_0.symm) ?_
        refine g_istore_n hX (pc := 32) (lv1 := [(3, .int (nI 0)), (1, .long (dgB P 0)), (0, .ref o)]) dX1_digest_32 (by decide) rfl ?_
        have lp3 : ∀ (F2 : Nat) (k : Nat), List.length (nM P) - k < F2 → (k ≤ List.length (nM P)) → G E l X [[(o, ob 0 [.ref n])], [(n, ob 1 [.ref lm, .ref lb, .ref lr, .int (nLo P), .int (nNow P)])], wm, wM, wb, wr, wq, fz] 0 0 33 [(3, .int (nI k)), (1, .long (dgB P k)), (0, .ref o)] [] := by
          intro F2
          induction F2 with
          | zero =>
            intro k hF hk
            exact absurd hF (Nat.not_lt_zero _)
          | succ F2 ih2 =>
            intro k hF hk
            refine g_iload_n hX (pc := 33) dX1_digest_33 0 rfl ?_
            refine g_aload_n hX (pc := 34) dX1_digest_34 2 rfl ?_
            refine g_get hX (pc := 35) fcX1 0 rfl 0 (by decide) q176 rfl (v := .ref n) rfl dX1_digest_35 ?_
            refine g_getN hX (pc := 38) fcX2 1 rfl 0 (by decide) q156 rfl (v := .ref lm) rfl dX1_digest_38 ?_
            obtain ⟨as4, hal5, hln6⟩ := ML.al hML
            obtain ⟨fs7, hm8⟩ := AL.head hal5
            refine g_callF hX (pc := 41) kfJ2_size (mt_AL_size E l lm as4 wm hal5) q738 fcJ2 (sp_in 2 rfl hm8) [2] rfl rfl rfl (Nat.le_of_ble_eq_true rfl) (Nat.le_of_ble_eq_true rfl) (Nat.le_of_ble_eq_true rfl) (by omega) (by omega) dX1_digest_41 (fun v w1 hp => ?_)
            obtain ⟨rfl, rfl⟩ := hp
            refine g_nrm (cs1 := [wm, [(o, ob 0 [.ref n])], [(n, ob 1 [.ref lm, .ref lb, .ref lr, .int (nLo P), .int (nNow P)])], wM, wb, wr, wq, fz]) (st1 := [.int (nI (List.length as4)), .int (nI k)]) rfl rfl ?_
            refine g_eqi (nI (List.length (nM P))) (by rw [hln6]) ?_
            refine g_icmp_ge hX (pc := 46) (tgt := 62) dX1_digest_46 rfl (fun c9 => ?_) (fun c9 => ?_)
            · have d1 : k = List.length (nM P) := by
                have := (nI_leI (by omega) (by omega)).mp c9
                omega
              refine g_lv1 (lv1 := [(3, .int (nI k)), (1, .long (dgC P 0)), (0, .ref o)]) (by rw [d1]; rfl) ?_
              refine g_iconst hX (pc := 62) (v := 0) dX1_digest_62 (by decide) ?_
              refine g_eqi (nI 0) (nI_0.symm) ?_
              refine g_istore_n hX (pc := 63) (lv1 := [(3, .int (nI 0)), (1, .long (dgC P 0)), (0, .ref o)]) dX1_digest_63 (by decide) rfl ?_
              have lp10 : ∀ (F3 : Nat) (i : Nat), List.length (nB P) - i < F3 → (i ≤ List.length (nB P)) → G E l X [[(o, ob 0 [.ref n])], [(n, ob 1 [.ref lm, .ref lb, .ref lr, .int (nLo P), .int (nNow P)])], wm, wM, wb, wr, wq, fz] 0 0 64 [(3, .int (nI i)), (1, .long (dgC P i)), (0, .ref o)] [] := by
                intro F3
                induction F3 with
                | zero =>
                  intro i hF hi
                  exact absurd hF (Nat.not_lt_zero _)
                | succ F3 ih3 =>
                  intro i hF hi
                  refine g_iload_n hX (pc := 64) dX1_digest_64 0 rfl ?_
                  refine g_aload_n hX (pc := 65) dX1_digest_65 2 rfl ?_
                  refine g_get hX (pc := 66) fcX1 0 rfl 0 (by decide) q176 rfl (v := .ref n) rfl dX1_digest_66 ?_
                  refine g_getN hX (pc := 69) fcX2 1 rfl 1 (by decide) q158 rfl (v := .ref lb) rfl dX1_digest_69 ?_
                  obtain ⟨as11, hal12, hln13⟩ := BL.al hB
                  obtain ⟨fs14, hm15⟩ := AL.head hal12
                  refine g_callF hX (pc := 72) kfJ2_size (mt_AL_size E l lb as11 wb hal12) q738 fcJ2 (sp_in 4 rfl hm15) [4] rfl rfl rfl (Nat.le_of_ble_eq_true rfl) (Nat.le_of_ble_eq_true rfl) (Nat.le_of_ble_eq_true rfl) (by omega) (by omega) dX1_digest_72 (fun v w1 hp => ?_)
                  obtain ⟨rfl, rfl⟩ := hp
                  refine g_nrm (cs1 := [wb, [(o, ob 0 [.ref n])], [(n, ob 1 [.ref lm, .ref lb, .ref lr, .int (nLo P), .int (nNow P)])], wm, wM, wr, wq, fz]) (st1 := [.int (nI (List.length as11)), .int (nI i)]) rfl rfl ?_
                  refine g_eqi (nI (List.length (nB P))) (by rw [hln13]) ?_
                  refine g_icmp_ge hX (pc := 77) (tgt := 128) dX1_digest_77 rfl (fun c16 => ?_) (fun c16 => ?_)
                  · have d1 : i = List.length (nB P) := by
                      have := (nI_leI (by omega) (by omega)).mp c16
                      omega
                    refine g_lv1 (lv1 := [(3, .int (nI i)), (1, .long (dgD P 0)), (0, .ref o)]) (by rw [d1]; rfl) ?_
                    refine g_iconst hX (pc := 128) (v := 0) dX1_digest_128 (by decide) ?_
                    refine g_eqi (nI 0) (nI_0.symm) ?_
                    refine g_istore_n hX (pc := 129) (lv1 := [(3, .int (nI 0)), (1, .long (dgD P 0)), (0, .ref o)]) dX1_digest_129 (by decide) rfl ?_
                    have lp17 : ∀ (F4 : Nat) (j : Nat), List.length (nR P) - j < F4 → (j ≤ List.length (nR P)) → G E l X [[(o, ob 0 [.ref n])], [(n, ob 1 [.ref lm, .ref lb, .ref lr, .int (nLo P), .int (nNow P)])], wm, wM, wb, wr, wq, fz] 0 0 130 [(3, .int (nI j)), (1, .long (dgD P j)), (0, .ref o)] [] := by
                      intro F4
                      induction F4 with
                      | zero =>
                        intro j hF hj
                        exact absurd hF (Nat.not_lt_zero _)
                      | succ F4 ih4 =>
                        intro j hF hj
                        refine g_iload_n hX (pc := 130) dX1_digest_130 0 rfl ?_
                        refine g_aload_n hX (pc := 131) dX1_digest_131 2 rfl ?_
                        refine g_get hX (pc := 132) fcX1 0 rfl 0 (by decide) q176 rfl (v := .ref n) rfl dX1_digest_132 ?_
                        refine g_getN hX (pc := 135) fcX2 1 rfl 2 (by decide) q160 rfl (v := .ref lr) rfl dX1_digest_135 ?_
                        obtain ⟨as18, hal19, hln20⟩ := RL.al hRq
                        obtain ⟨fs21, hm22⟩ := AL.head hal19
                        refine g_callF hX (pc := 138) kfJ2_size (mt_AL_size E l lr as18 wr hal19) q738 fcJ2 (sp_in 5 rfl hm22) [5] rfl rfl rfl (Nat.le_of_ble_eq_true rfl) (Nat.le_of_ble_eq_true rfl) (Nat.le_of_ble_eq_true rfl) (by omega) (by omega) dX1_digest_138 (fun v w1 hp => ?_)
                        obtain ⟨rfl, rfl⟩ := hp
                        refine g_nrm (cs1 := [wr, [(o, ob 0 [.ref n])], [(n, ob 1 [.ref lm, .ref lb, .ref lr, .int (nLo P), .int (nNow P)])], wm, wM, wb, wq, fz]) (st1 := [.int (nI (List.length as18)), .int (nI j)]) rfl rfl ?_
                        refine g_eqi (nI (List.length (nR P))) (by rw [hln20]) ?_
                        refine g_icmp_ge hX (pc := 143) (tgt := 193) dX1_digest_143 rfl (fun c23 => ?_) (fun c23 => ?_)
                        · have d1 : j = List.length (nR P) := by
                            have := (nI_leI (by omega) (by omega)).mp c23
                            omega
                          refine g_lv1 (lv1 := [(3, .int (nI j)), (1, .long (dgD P (List.length (nR P)))), (0, .ref o)]) (by rw [d1]) ?_
                          refine g_lload_n hX (pc := 193) dX1_digest_193 1 rfl ?_
                          refine g_aload_n hX (pc := 194) dX1_digest_194 2 rfl ?_
                          refine g_get hX (pc := 195) fcX1 1 rfl 0 (by decide) q176 rfl (v := .ref n) rfl dX1_digest_195 ?_
                          refine g_callV hX (pc := 198) kX2_breaks (mt_Net_breaks E l n lm lb lr P wm wM wr wq fz b0 hML hRq (hb0) (by omega) (hv)) q184 fcX2 (sp_mem (i := 2) rfl) [2, 2, 2, 0, 2, 2] rfl rfl rfl (Nat.le_of_ble_eq_true rfl) (Nat.le_of_ble_eq_true rfl) (Nat.le_of_ble_eq_true rfl) (by omega) (by omega) dX1_digest_198 (fun v w1 hp => ?_)
                          obtain ⟨rfl, rfl⟩ := hp
                          refine g_nrm (cs1 := [[(n, ob 1 [.ref lm, .ref lb, .ref lr, .int (nLo P), .int (nNow P)])], wm, wM, wr, wq, fz, [(o, ob 0 [.ref n])], wb]) (st1 := [.int (brkN P), .long (dgD P (List.length (nR P)))]) rfl rfl ?_
                          refine g_callS hX (pc := 201) kX1_mix (mt_Q_mix E l (dgD P (List.length (nR P))) (brkN P)) q768 [] rfl rfl rfl (Nat.le_of_ble_eq_true rfl) (Nat.le_of_ble_eq_true rfl) (Nat.le_of_ble_eq_true rfl) (by omega) (by omega) dX1_digest_201 (fun v w1 hp => ?_)
                          obtain ⟨rfl, rfl⟩ := hp
                          refine g_nrm (cs1 := [[(n, ob 1 [.ref lm, .ref lb, .ref lr, .int (nLo P), .int (nNow P)])], wm, wM, wr, wq, fz, [(o, ob 0 [.ref n])], wb]) (st1 := [.long (mixD (dgD P (List.length (nR P))) (brkN P))]) rfl rfl ?_
                          refine g_eql (dgF P 0) (rfl) ?_
                          refine g_lstore_n hX (pc := 204) (lv1 := [(1, .long (dgF P 0)), (3, .int (nI j)), (0, .ref o)]) dX1_digest_204 (by decide) rfl ?_
                          refine g_iconst hX (pc := 205) (v := 0) dX1_digest_205 (by decide) ?_
                          refine g_eqi (nI 0) (nI_0.symm) ?_
                          refine g_istore_n hX (pc := 206) (lv1 := [(3, .int (nI 0)), (1, .long (dgF P 0)), (0, .ref o)]) dX1_digest_206 (by decide) rfl ?_
                          have lp24 : ∀ (F5 : Nat) (k : Nat) (wML : va_W) (fzL : va_W), List.length (nM P) - k < F5 → (k ≤ List.length (nM P)) → Ext E fz fzL → ML E fzL lm (nM P) wm wML → BL E fzL lb (nB P) wb → G E l X [[(o, ob 0 [.ref n])], [(n, ob 1 [.ref lm, .ref lb, .ref lr, .int (nLo P), .int (nNow P)])], wm, wML, wb, wr, wq, fzL] (172 + 1277 * k) (5780 + 24744 * k) 207 [(3, .int (nI k)), (1, .long (dgF P k)), (0, .ref o)] [] := by
                            intro F5
                            induction F5 with
                            | zero =>
                              intro k wML fzL hF hk hxL hML2 hB2
                              exact absurd hF (Nat.not_lt_zero _)
                            | succ F5 ih5 =>
                              intro k wML fzL hF hk hxL hML2 hB2
                              refine g_iload_n hX (pc := 207) dX1_digest_207 0 rfl ?_
                              refine g_aload_n hX (pc := 208) dX1_digest_208 2 rfl ?_
                              refine g_get hX (pc := 209) fcX1 0 rfl 0 (by decide) q176 rfl (v := .ref n) rfl dX1_digest_209 ?_
                              refine g_getN hX (pc := 212) fcX2 1 rfl 0 (by decide) q156 rfl (v := .ref lm) rfl dX1_digest_212 ?_
                              obtain ⟨as25, hal26, hln27⟩ := ML.al hML2
                              refine g_callF hX (pc := 215) kfJ2_size (mt_AL_size E l lm as25 wm hal26) q738 fcJ2 (sp_in 2 rfl hm8) [2] rfl rfl rfl (Nat.le_of_ble_eq_true rfl) (Nat.le_of_ble_eq_true rfl) (Nat.le_of_ble_eq_true rfl) (by omega) (by omega) dX1_digest_215 (fun v w1 hp => ?_)
                              obtain ⟨rfl, rfl⟩ := hp
                              refine g_nrm (cs1 := [wm, [(o, ob 0 [.ref n])], [(n, ob 1 [.ref lm, .ref lb, .ref lr, .int (nLo P), .int (nNow P)])], wML, wb, wr, wq, fzL]) (st1 := [.int (nI (List.length as25)), .int (nI k)]) rfl rfl ?_
                              refine g_eqi (nI (List.length (nM P))) (by rw [hln27]) ?_
                              refine g_icmp_ge hX (pc := 220) (tgt := 247) dX1_digest_220 rfl (fun c28 => ?_) (fun c28 => ?_)
                              · have d1 : k = List.length (nM P) := by
                                  have := (nI_leI (by omega) (by omega)).mp c28
                                  omega
                                refine g_lv1 (lv1 := [(3, .int (nI k)), (1, .long (dgF P (List.length (nM P)))), (0, .ref o)]) (by rw [d1]) ?_
                                refine g_aload_n hX (pc := 247) dX1_digest_247 2 rfl ?_
                                refine g_get hX (pc := 248) fcX1 1 rfl 0 (by decide) q176 rfl (v := .ref n) rfl dX1_digest_248 ?_
                                refine g_getN hX (pc := 251) fcX2 2 rfl 2 (by decide) q160 rfl (v := .ref lr) rfl dX1_digest_251 ?_
                                obtain ⟨as29, hal30, hln31⟩ := RL.al hRq
                                refine g_callF hX (pc := 254) kfJ2_isEmpty (mt_AL_isEmpty E l lr as29 wr hal30 (by omega)) q1255 fcJ2 (sp_in 5 rfl hm22) [5] rfl rfl rfl (Nat.le_of_ble_eq_true rfl) (Nat.le_of_ble_eq_true rfl) (Nat.le_of_ble_eq_true rfl) (by omega) (by omega) dX1_digest_254 (fun v w1 hp => ?_)
                                obtain ⟨rfl, rfl⟩ := hp
                                refine g_nrm (cs1 := [wr, wm, [(o, ob 0 [.ref n])], [(n, ob 1 [.ref lm, .ref lb, .ref lr, .int (nLo P), .int (nNow P)])], wML, wb, wq, fzL]) (st1 := [.int (if List.length as29 = 0 then 1 else 0)]) rfl rfl ?_
                                refine g_if_eq hX (pc := 259) (tgt := 266) dX1_digest_259 rfl (fun c32_ => ?_) (fun c32_ => ?_)
                                · have c32 := z10.mp c32_
                                  have he0 : ¬ (nR P).length = 0 := by rw [← hln31]; exact c32
                                  have hrn : rqN P = 1 := if_neg he0
                                  refine g_lload_n hX (pc := 266) dX1_digest_266 1 rfl ?_
                                  refine g_aload_n hX (pc := 267) dX1_digest_267 2 rfl ?_
                                  refine g_aload_n hX (pc := 268) dX1_digest_268 2 rfl ?_
                                  refine g_get hX (pc := 269) fcX1 2 rfl 0 (by decide) q176 rfl (v := .ref n) rfl dX1_digest_269 ?_
                                  refine g_getN hX (pc := 272) fcX2 3 rfl 2 (by decide) q160 rfl (v := .ref lr) rfl dX1_digest_272 ?_
                                  obtain ⟨as33, hal34, hln35⟩ := RL.al hRq
                                  refine g_callF hX (pc := 275) kfJ2_size (mt_AL_size E l lr as33 wr hal34) q738 fcJ2 (sp_in 0 rfl hm22) [0] rfl rfl rfl (Nat.le_of_ble_eq_true rfl) (Nat.le_of_ble_eq_true rfl) (Nat.le_of_ble_eq_true rfl) (by omega) (by omega) dX1_digest_275 (fun v w1 hp => ?_)
                                  obtain ⟨rfl, rfl⟩ := hp
                                  refine g_nrm (cs1 := [wr, wm, [(o, ob 0 [.ref n])], [(n, ob 1 [.ref lm, .ref lb, .ref lr, .int (nLo P), .int (nNow P)])], wML, wb, wq, fzL]) (st1 := [.int (nI (List.length as33)), .ref o, .long (dgF P (List.length (nM P)))]) rfl rfl ?_
                                  refine g_eqi (nI (List.length (nR P))) (by rw [hln35]) ?_
                                  refine g_iconst hX (pc := 280) (v := 1) dX1_digest_280 (by decide) ?_
                                  refine g_isub hX (pc := 281) dX1_digest_281 ?_
                                  refine g_eqi (nI (List.length (nR P) - 1)) (by rw [show (1 : Int32) = nI 1 from rfl, pk_sub (by omega)]) ?_
                                  refine g_callV hX (pc := 282) kX1_answerNow (mt_Q_answerNow E l o n lm lb lr P wm wML wb wr wq fzL (List.length (nR P) - 1) hML2 hB2 hRq (hP) (by omega)) q1256 fcX1 (sp_mem (i := 2) rfl) [2, 2, 1, 1, 1, 0, 0, 0] rfl rfl rfl (Nat.le_of_ble_eq_true rfl) (Nat.le_of_ble_eq_true rfl) (Nat.le_of_ble_eq_true rfl) (by omega) (by omega) dX1_digest_282 (fun v w1 hp => ?_)
                                  obtain ⟨fz136, w137, h38, h39, h40, rfl, rfl⟩ := hp
                                  refine g_nrm (cs1 := [[(o, ob 0 [.ref n])], [(n, ob 1 [.ref lm, .ref lb, .ref lr, .int (nLo P), .int (nNow P)])], wm, w137, wb, wr, wq, fz136]) (st1 := [.int (ansN P (List.length (nR P) - 1)), .long (dgF P (List.length (nM P)))]) rfl rfl ?_
                                  have h41 := ML.mono h38 hML2
                                  have h42 := BL.mono h38 hB2
                                  refine g_callS hX (pc := 285) kX1_mix (mt_Q_mix E l (dgF P (List.length (nM P))) (ansN P (List.length (nR P) - 1))) q768 [] rfl rfl rfl (Nat.le_of_ble_eq_true rfl) (Nat.le_of_ble_eq_true rfl) (Nat.le_of_ble_eq_true rfl) (by omega) (by omega) dX1_digest_285 (fun v w1 hp => ?_)
                                  obtain ⟨rfl, rfl⟩ := hp
                                  refine g_nrm (cs1 := [[(o, ob 0 [.ref n])], [(n, ob 1 [.ref lm, .ref lb, .ref lr, .int (nLo P), .int (nNow P)])], wm, w137, wb, wr, wq, fz136]) (st1 := [.long (mixD (dgF P (List.length (nM P))) (ansN P (List.length (nR P) - 1)))]) rfl rfl ?_
                                  refine g_lret hX (pc := 288) hR ?_ (by omega) (by omega) dX1_digest_288
                                  rw [show digN P = mixD (dgF P (List.length (nM P))) (ansN P (List.length (nR P) - 1)) from if_neg he0]
                                  exact ⟨_, _, (Ext.tr hxL h38), h39, h40, rfl, rfl⟩
                                · have c32 := z10n.mp c32_
                                  have he0 : (nR P).length = 0 := by rw [← hln31]; exact c32
                                  have hrn : rqN P = 0 := if_pos he0
                                  refine g_lload_n hX (pc := 262) dX1_digest_262 1 rfl ?_
                                  refine g_goto hX (pc := 263) (tgt := 288) dX1_digest_263 rfl ?_
                                  refine g_pk [2, 2, 1, 1, 1, 0, 0, 0] rfl ?_
                                  refine g_cs (cs1 := [[(o, ob 0 [.ref n])], [(n, ob 1 [.ref lm, .ref lb, .ref lr, .int (nLo P), .int (nNow P)])], wm, wML, wb, wr, wq, fzL]) rfl ?_
                                  refine g_lret hX (pc := 288) hR ?_ (by omega) (by omega) dX1_digest_288
                                  rw [show digN P = dgF P (List.length (nM P)) from if_pos he0]
                                  exact ⟨_, _, hxL, hML2, hB2, rfl, rfl⟩
                              · have d1 : k < List.length (nM P) := by
                                  have := mt (nI_leI (by omega) (by omega)).mpr c28
                                  omega
                                refine g_lload_n hX (pc := 223) dX1_digest_223 1 rfl ?_
                                refine g_aload_n hX (pc := 224) dX1_digest_224 2 rfl ?_
                                refine g_iload_n hX (pc := 225) dX1_digest_225 0 rfl ?_
                                refine g_callV hX (pc := 226) kX1_leadNow (mt_Q_leadNow E l o n lm lb lr P wm wML wb wr wq fzL k hML2 hB2 hRq (hP) (d1)) q811 fcX1 (sp_mem (i := 1) rfl) [1, 1, 0, 0, 0, 0, 0, 0] rfl rfl rfl (Nat.le_of_ble_eq_true rfl) (Nat.le_of_ble_eq_true rfl) (Nat.le_of_ble_eq_true rfl) (by omega) (by omega) dX1_digest_226 (fun v w1 hp => ?_)
                                obtain ⟨fz143, w144, h45, h46, h47, rfl, rfl⟩ := hp
                                refine g_nrm (cs1 := [[(o, ob 0 [.ref n])], [(n, ob 1 [.ref lm, .ref lb, .ref lr, .int (nLo P), .int (nNow P)])], wm, w144, wb, wr, wq, fz143]) (st1 := [.int (bI (leadB P k)), .long (dgF P k)]) rfl rfl ?_
                                have h48 := ML.mono h45 hML2
                                have h49 := BL.mono h45 hB2
                                refine g_val (v := if (leadB P k) = false then 0 else 1) (pcJ := 237) (st1 := [.long (dgF P k)]) (fun hj50 => ?_) ?_
                                · refine g_if_eq hX (pc := 229) (tgt := 236) dX1_digest_229 rfl (fun c51_ => ?_) (fun c51_ => ?_)
                                  · have c51 := bI_0.mp c51_
                                    refine g_iconst hX (pc := 236) (v := 0) dX1_digest_236 (by decide) ?_
                                    exact hj50 _ (by rw [if_pos c51])
                                  · have c51 := mt bI_0.mpr c51_
                                    refine g_iconst hX (pc := 232) (v := 1) dX1_digest_232 (by decide) ?_
                                    refine g_goto hX (pc := 233) (tgt := 237) dX1_digest_233 rfl ?_
                                    exact hj50 _ (by rw [if_neg c51])
                                refine g_eqi (bI (leadB P k)) (by unfold bI; cases leadB P k <;> rfl) ?_
                                refine g_callS hX (pc := 237) kX1_mix (mt_Q_mix E l (dgF P k) (bI (leadB P k))) q768 [] rfl rfl rfl (Nat.le_of_ble_eq_true rfl) (Nat.le_of_ble_eq_true rfl) (Nat.le_of_ble_eq_true rfl) (by omega) (by omega) dX1_digest_237 (fun v w1 hp => ?_)
                                obtain ⟨rfl, rfl⟩ := hp
                                refine g_nrm (cs1 := [[(o, ob 0 [.ref n])], [(n, ob 1 [.ref lm, .ref lb, .ref lr, .int (nLo P), .int (nNow P)])], wm, w144, wb, wr, wq, fz143]) (st1 := [.long (mixD (dgF P k) (bI (leadB P k)))]) rfl rfl ?_
                                refine g_eql (dgF P (k + 1)) (rfl) ?_
                                refine g_lstore_n hX (pc := 240) (lv1 := [(1, .long (dgF P (k + 1))), (3, .int (nI k)), (0, .ref o)]) dX1_digest_240 (by decide) rfl ?_
                                refine g_iinc hX (pc := 241) (v := nI (k + 1)) (lv1 := [(3, .int (nI (k + 1))), (1, .long (dgF P (k + 1))), (0, .ref o)]) dX1_digest_241 1 rfl (nI_1 _) (by decide) rfl ?_
                                refine g_goto hX (pc := 244) (tgt := 207) dX1_digest_244 rfl ?_
                                refine g_widen (kc1 := 172 + 1277 * (k + 1)) (ks1 := 5780 + 24744 * (k + 1)) (by omega) (by omega) ?_
                                exact ih5 (k + 1) w144 fz143 (by omega) (by omega) (Ext.tr hxL h45) h46 h47
                          refine g_pk [6, 0, 0, 0, 3, 0, 0, 0] rfl ?_
                          refine g_cs (cs1 := [[(o, ob 0 [.ref n])], [(n, ob 1 [.ref lm, .ref lb, .ref lr, .int (nLo P), .int (nNow P)])], wm, wM, wb, wr, wq, fz]) rfl ?_
                          refine g_widen (kc1 := 172 + 1277 * 0) (ks1 := 5780 + 24744 * 0) (by omega) (by omega) ?_
                          exact lp24 ((List.length (nM P) - 0) + 1) 0 wM fz (Nat.lt_succ_self _) (Nat.zero_le _) (Ext.rfl') hML hB
                        · have d1 : j < List.length (nR P) := by
                            have := mt (nI_leI (by omega) (by omega)).mpr c23
                            omega
                          obtain ⟨r, hgr⟩ := get_ex (l := nR P) (i := j) d1
                          obtain ⟨ras, a, hAr, hrl, hra, hrm⟩ := RL.at hRq hgr
                          have hrk := hrq2.2 r (List.mem_of_getElem? hgr)
                          refine g_lv1 (lv1 := [(3, .int (nI j)), (1, .long (dgR r (dgD P j) 0)), (0, .ref o)]) (rfl) ?_
                          refine g_iconst hX (pc := 146) (v := 0) dX1_digest_146 (by decide) ?_
                          refine g_eqi (nI 0) (nI_0.symm) ?_
                          refine g_istore hX (pc := 147) (lv1 := [(4, .int (nI 0)), (3, .int (nI j)), (1, .long (dgR r (dgD P j) 0)), (0, .ref o)]) dX1_digest_147 (by decide) rfl ?_
                          have lp52 : ∀ (F6 : Nat) (z : Nat), 4 - z < F6 → (z ≤ 4) → G E l X [[(o, ob 0 [.ref n])], [(n, ob 1 [.ref lm, .ref lb, .ref lr, .int (nLo P), .int (nNow P)])], wm, wM, wb, wr, wq, fz] 0 0 149 [(4, .int (nI z)), (3, .int (nI j)), (1, .long (dgR r (dgD P j) z)), (0, .ref o)] [] := by
                            intro F6
                            induction F6 with
                            | zero =>
                              intro z hF hz
                              exact absurd hF (Nat.not_lt_zero _)
                            | succ F6 ih6 =>
                              intro z hF hz
                              refine g_iload hX (pc := 149) dX1_digest_149 0 rfl ?_
                              refine g_iconst hX (pc := 151) (v := 3) dX1_digest_151 (by decide) ?_
                              refine g_icmp_gt hX (pc := 152) (tgt := 187) dX1_digest_152 rfl (fun c53 => ?_) (fun c53 => ?_)
                              · have d3 : z = 4 := by
                                  have h1 := c53
                                  rw [show (3 : Int32) = nI 3 from rfl] at h1
                                  have := (nI_ltI (by omega) (by omega)).mp h1
                                  omega
                                refine g_lv1 (lv1 := [(4, .int (nI z)), (3, .int (nI j)), (1, .long (dgD P (j + 1))), (0, .ref o)]) (by rw [show dgD P (j + 1) = dgR r (dgD P j) 4 from by show dgR (rqG (nR P) j) (dgD P j) 4 = _; rw [rqG_e hgr], d3]) ?_
                                refine g_iinc hX (pc := 187) (v := nI (j + 1)) (lv1 := [(3, .int (nI (j + 1))), (4, .int (nI z)), (1, .long (dgD P (j + 1))), (0, .ref o)]) dX1_digest_187 1 rfl (nI_1 _) (by decide) rfl ?_
                                refine g_goto hX (pc := 190) (tgt := 130) dX1_digest_190 rfl ?_
                                refine g_lv (lv1 := [(3, .int (nI (j + 1))), (1, .long (dgD P (j + 1))), (0, .ref o)]) [0, 2, 3] rfl ?_
                                refine g_widen (kc1 := 0) (ks1 := 0) (by omega) (by omega) ?_
                                exact ih4 (j + 1) (by omega) (by omega)
                              · have d3 : z < 4 := by
                                  have h1 := Int32.not_lt.mp c53
                                  rw [show (3 : Int32) = nI 3 from rfl] at h1
                                  have := (nI_leI (by omega) (by omega)).mp h1
                                  omega
                                refine g_lload_n hX (pc := 155) dX1_digest_155 2 rfl ?_
                                refine g_aload_n hX (pc := 156) dX1_digest_156 3 rfl ?_
                                refine g_get hX (pc := 157) fcX1 0 rfl 0 (by decide) q176 rfl (v := .ref n) rfl dX1_digest_157 ?_
                                refine g_getN hX (pc := 160) fcX2 1 rfl 2 (by decide) q160 rfl (v := .ref lr) rfl dX1_digest_160 ?_
                                refine g_iload_n hX (pc := 163) dX1_digest_163 1 rfl ?_
                                refine g_callF hX (pc := 164) kfJ2_get (mt_AL_get E l lr ras wr j a hAr (hra)) q740 fcJ2 (sp_in 5 rfl hm22) [5] rfl rfl rfl (Nat.le_of_ble_eq_true rfl) (Nat.le_of_ble_eq_true rfl) (Nat.le_of_ble_eq_true rfl) (by omega) (by omega) dX1_digest_164 (fun v w1 hp => ?_)
                                obtain ⟨rfl, rfl⟩ := hp
                                refine g_nrm (cs1 := [wr, [(o, ob 0 [.ref n])], [(n, ob 1 [.ref lm, .ref lb, .ref lr, .int (nLo P), .int (nNow P)])], wm, wM, wb, wq, fz]) (st1 := [.ref a, .long (dgR r (dgD P j) z)]) rfl rfl ?_
                                refine g_cast hX (pc := 169) fcX12 (sp_in 6 rfl hrm) q741 dX1_digest_169 ?_
                                refine g_iload hX (pc := 172) dX1_digest_172 0 rfl ?_
                                refine g_callS hX (pc := 174) kX1_requestNow (mt_Q_requestNow E l a r wq z (hrm) (hrk.2.1) (by omega)) q805 [6] rfl rfl rfl (Nat.le_of_ble_eq_true rfl) (Nat.le_of_ble_eq_true rfl) (Nat.le_of_ble_eq_true rfl) (by omega) (by omega) dX1_digest_174 (fun v w1 hp => ?_)
                                obtain ⟨rfl, rfl⟩ := hp
                                refine g_nrm (cs1 := [wq, wr, [(o, ob 0 [.ref n])], [(n, ob 1 [.ref lm, .ref lb, .ref lr, .int (nLo P), .int (nNow P)])], wm, wM, wb, fz]) (st1 := [.int (oReq r z), .long (dgR r (dgD P j) z)]) rfl rfl ?_
                                refine g_callS hX (pc := 177) kX1_mix (mt_Q_mix E l (dgR r (dgD P j) z) (oReq r z)) q768 [] rfl rfl rfl (Nat.le_of_ble_eq_true rfl) (Nat.le_of_ble_eq_true rfl) (Nat.le_of_ble_eq_true rfl) (by omega) (by omega) dX1_digest_177 (fun v w1 hp => ?_)
                                obtain ⟨rfl, rfl⟩ := hp
                                refine g_nrm (cs1 := [wq, wr, [(o, ob 0 [.ref n])], [(n, ob 1 [.ref lm, .ref lb, .ref lr, .int (nLo P), .int (nNow P)])], wm, wM, wb, fz]) (st1 := [.long (mixD (dgR r (dgD P j) z) (oReq r z))]) rfl rfl ?_
                                refine g_eql (dgR r (dgD P j) (z + 1)) (rfl) ?_
                                refine g_lstore_n hX (pc := 180) (lv1 := [(1, .long (dgR r (dgD P j) (z + 1))), (4, .int (nI z)), (3, .int (nI j)), (0, .ref o)]) dX1_digest_180 (by decide) rfl ?_
                                refine g_iinc hX (pc := 181) (v := nI (z + 1)) (lv1 := [(4, .int (nI (z + 1))), (1, .long (dgR r (dgD P j) (z + 1))), (3, .int (nI j)), (0, .ref o)]) dX1_digest_181 1 rfl (nI_1 _) (by decide) rfl ?_
                                refine g_goto hX (pc := 184) (tgt := 149) dX1_digest_184 rfl ?_
                                refine g_pk [2, 2, 2, 2, 2, 1, 0, 0] rfl ?_
                                refine g_cs (cs1 := [[(o, ob 0 [.ref n])], [(n, ob 1 [.ref lm, .ref lb, .ref lr, .int (nLo P), .int (nNow P)])], wm, wM, wb, wr, wq, fz]) rfl ?_
                                refine g_lv (lv1 := [(4, .int (nI (z + 1))), (3, .int (nI j)), (1, .long (dgR r (dgD P j) (z + 1))), (0, .ref o)]) [0, 2, 1, 3] rfl ?_
                                refine g_widen (kc1 := 0) (ks1 := 0) (by omega) (by omega) ?_
                                exact ih6 (z + 1) (by omega) (by omega)
                          refine g_pk [1, 1, 1, 1, 1, 0, 0, 0] rfl ?_
                          refine g_cs (cs1 := [[(o, ob 0 [.ref n])], [(n, ob 1 [.ref lm, .ref lb, .ref lr, .int (nLo P), .int (nNow P)])], wm, wM, wb, wr, wq, fz]) rfl ?_
                          refine g_widen (kc1 := 0) (ks1 := 0) (by omega) (by omega) ?_
                          exact lp52 ((4 - 0) + 1) 0 (Nat.lt_succ_self _) (Nat.zero_le _)
                    refine g_pk [1, 1, 1, 1, 0, 0, 0, 0] rfl ?_
                    refine g_cs (cs1 := [[(o, ob 0 [.ref n])], [(n, ob 1 [.ref lm, .ref lb, .ref lr, .int (nLo P), .int (nNow P)])], wm, wM, wb, wr, wq, fz]) rfl ?_
                    refine g_widen (kc1 := 0) (ks1 := 0) (by omega) (by omega) ?_
                    exact lp17 ((List.length (nR P) - 0) + 1) 0 (Nat.lt_succ_self _) (Nat.zero_le _)
                  · have d1 : i < List.length (nB P) := by
                      have := mt (nI_leI (by omega) (by omega)).mpr c16
                      omega
                    obtain ⟨g, hgi⟩ := get_ex (l := nB P) (i := i) d1
                    obtain ⟨bas, a, hAb, hbl, hba, hg, hbo, hBc⟩ := bl_focus hB hgi
                    obtain ⟨ra, sp, ges, f, hg1, -⟩ := MsgIn.out hg
                    obtain ⟨⟨q1, q2, q3⟩, ⟨q4, q5⟩, q6, q7⟩ := hb0.2.2.2.2 g (List.mem_of_getElem? hgi)
                    refine g_lv1 (lv1 := [(3, .int (nI i)), (1, .long (dgG g (dgC P i) 0)), (0, .ref o)]) (rfl) ?_
                    refine g_iconst hX (pc := 80) (v := 0) dX1_digest_80 (by decide) ?_
                    refine g_eqi (nI 0) (nI_0.symm) ?_
                    refine g_istore hX (pc := 81) (lv1 := [(4, .int (nI 0)), (3, .int (nI i)), (1, .long (dgG g (dgC P i) 0)), (0, .ref o)]) dX1_digest_81 (by decide) rfl ?_
                    have lp54 : ∀ (F7 : Nat) (z : Nat), 7 - z < F7 → (z ≤ 7) → G E l X [[(o, ob 0 [.ref n])], [(n, ob 1 [.ref lm, .ref lb, .ref lr, .int (nLo P), .int (nNow P)])], wm, wM, wb, wr, wq, fz] 0 0 83 [(4, .int (nI z)), (3, .int (nI i)), (1, .long (dgG g (dgC P i) z)), (0, .ref o)] [] := by
                      intro F7
                      induction F7 with
                      | zero =>
                        intro z hF hz
                        exact absurd hF (Nat.not_lt_zero _)
                      | succ F7 ih7 =>
                        intro z hF hz
                        refine g_iload hX (pc := 83) dX1_digest_83 0 rfl ?_
                        refine g_bipush hX (pc := 85) (v := 6) dX1_digest_85 (by decide) ?_
                        refine g_icmp_gt hX (pc := 87) (tgt := 122) dX1_digest_87 rfl (fun c55 => ?_) (fun c55 => ?_)
                        · have d3 : z = 7 := by
                            have h1 := c55
                            rw [show (6 : Int32) = nI 6 from rfl] at h1
                            have := (nI_ltI (by omega) (by omega)).mp h1
                            omega
                          refine g_lv1 (lv1 := [(4, .int (nI z)), (3, .int (nI i)), (1, .long (dgC P (i + 1))), (0, .ref o)]) (by rw [show dgC P (i + 1) = dgG g (dgC P i) 7 from by show dgG (gAt P i) (dgC P i) 7 = _; rw [gAt_e hgi], d3]) ?_
                          refine g_iinc hX (pc := 122) (v := nI (i + 1)) (lv1 := [(3, .int (nI (i + 1))), (4, .int (nI z)), (1, .long (dgC P (i + 1))), (0, .ref o)]) dX1_digest_122 1 rfl (nI_1 _) (by decide) rfl ?_
                          refine g_goto hX (pc := 125) (tgt := 64) dX1_digest_125 rfl ?_
                          refine g_lv (lv1 := [(3, .int (nI (i + 1))), (1, .long (dgC P (i + 1))), (0, .ref o)]) [0, 2, 3] rfl ?_
                          refine g_widen (kc1 := 0) (ks1 := 0) (by omega) (by omega) ?_
                          exact ih3 (i + 1) (by omega) (by omega)
                        · have d3 : z < 7 := by
                            have h1 := Int32.not_lt.mp c55
                            rw [show (6 : Int32) = nI 6 from rfl] at h1
                            have := (nI_leI (by omega) (by omega)).mp h1
                            omega
                          refine g_lload_n hX (pc := 90) dX1_digest_90 2 rfl ?_
                          refine g_aload_n hX (pc := 91) dX1_digest_91 3 rfl ?_
                          refine g_get hX (pc := 92) fcX1 0 rfl 0 (by decide) q176 rfl (v := .ref n) rfl dX1_digest_92 ?_
                          refine g_getN hX (pc := 95) fcX2 1 rfl 1 (by decide) q158 rfl (v := .ref lb) rfl dX1_digest_95 ?_
                          refine g_iload_n hX (pc := 98) dX1_digest_98 1 rfl ?_
                          refine g_callF hX (pc := 99) kfJ2_get (mt_AL_get E l lb bas wb i a hAb (hba)) q740 fcJ2 (sp_in 4 rfl hm15) [4] rfl rfl rfl (Nat.le_of_ble_eq_true rfl) (Nat.le_of_ble_eq_true rfl) (Nat.le_of_ble_eq_true rfl) (by omega) (by omega) dX1_digest_99 (fun v w1 hp => ?_)
                          obtain ⟨rfl, rfl⟩ := hp
                          refine g_nrm (cs1 := [wb, [(o, ob 0 [.ref n])], [(n, ob 1 [.ref lm, .ref lb, .ref lr, .int (nLo P), .int (nNow P)])], wm, wM, wr, wq, fz]) (st1 := [.ref a, .long (dgG g (dgC P i) z)]) rfl rfl ?_
                          refine g_cast hX (pc := 104) fcX13 (sp_in 7 rfl hg1) q794 dX1_digest_104 ?_
                          refine g_iload hX (pc := 107) dX1_digest_107 0 rfl ?_
                          refine g_callV hX (pc := 109) kX13_told (mt_Message_told E l a g fz z (hg) (q1) (d3) (by omega)) q795 fcX13 (sp_in 7 rfl hg1) [7] rfl rfl rfl (Nat.le_of_ble_eq_true rfl) (Nat.le_of_ble_eq_true rfl) (Nat.le_of_ble_eq_true rfl) (by omega) (by omega) dX1_digest_109 (fun v w1 hp => ?_)
                          obtain ⟨rfl, rfl⟩ := hp
                          refine g_nrm (cs1 := [fz, wb, [(o, ob 0 [.ref n])], [(n, ob 1 [.ref lm, .ref lb, .ref lr, .int (nLo P), .int (nNow P)])], wm, wM, wr, wq]) (st1 := [.int (gTold g z), .long (dgG g (dgC P i) z)]) rfl rfl ?_
                          refine g_callS hX (pc := 112) kX1_mix (mt_Q_mix E l (dgG g (dgC P i) z) (gTold g z)) q768 [] rfl rfl rfl (Nat.le_of_ble_eq_true rfl) (Nat.le_of_ble_eq_true rfl) (Nat.le_of_ble_eq_true rfl) (by omega) (by omega) dX1_digest_112 (fun v w1 hp => ?_)
                          obtain ⟨rfl, rfl⟩ := hp
                          refine g_nrm (cs1 := [fz, wb, [(o, ob 0 [.ref n])], [(n, ob 1 [.ref lm, .ref lb, .ref lr, .int (nLo P), .int (nNow P)])], wm, wM, wr, wq]) (st1 := [.long (mixD (dgG g (dgC P i) z) (gTold g z))]) rfl rfl ?_
                          refine g_eql (dgG g (dgC P i) (z + 1)) (rfl) ?_
                          refine g_lstore_n hX (pc := 115) (lv1 := [(1, .long (dgG g (dgC P i) (z + 1))), (4, .int (nI z)), (3, .int (nI i)), (0, .ref o)]) dX1_digest_115 (by decide) rfl ?_
                          refine g_iinc hX (pc := 116) (v := nI (z + 1)) (lv1 := [(4, .int (nI (z + 1))), (1, .long (dgG g (dgC P i) (z + 1))), (3, .int (nI i)), (0, .ref o)]) dX1_digest_116 1 rfl (nI_1 _) (by decide) rfl ?_
                          refine g_goto hX (pc := 119) (tgt := 83) dX1_digest_119 rfl ?_
                          refine g_pk [2, 2, 2, 2, 1, 1, 1, 0] rfl ?_
                          refine g_cs (cs1 := [[(o, ob 0 [.ref n])], [(n, ob 1 [.ref lm, .ref lb, .ref lr, .int (nLo P), .int (nNow P)])], wm, wM, wb, wr, wq, fz]) rfl ?_
                          refine g_lv (lv1 := [(4, .int (nI (z + 1))), (3, .int (nI i)), (1, .long (dgG g (dgC P i) (z + 1))), (0, .ref o)]) [0, 2, 1, 3] rfl ?_
                          refine g_widen (kc1 := 0) (ks1 := 0) (by omega) (by omega) ?_
                          exact ih7 (z + 1) (by omega) (by omega)
                    refine g_pk [1, 1, 1, 1, 0, 0, 0, 0] rfl ?_
                    refine g_cs (cs1 := [[(o, ob 0 [.ref n])], [(n, ob 1 [.ref lm, .ref lb, .ref lr, .int (nLo P), .int (nNow P)])], wm, wM, wb, wr, wq, fz]) rfl ?_
                    refine g_widen (kc1 := 0) (ks1 := 0) (by omega) (by omega) ?_
                    exact lp54 ((7 - 0) + 1) 0 (Nat.lt_succ_self _) (Nat.zero_le _)
              refine g_pk [1, 1, 0, 0, 0, 0, 0, 0] rfl ?_
              refine g_cs (cs1 := [[(o, ob 0 [.ref n])], [(n, ob 1 [.ref lm, .ref lb, .ref lr, .int (nLo P), .int (nNow P)])], wm, wM, wb, wr, wq, fz]) rfl ?_
              refine g_widen (kc1 := 0) (ks1 := 0) (by omega) (by omega) ?_
              exact lp10 ((List.length (nB P) - 0) + 1) 0 (Nat.lt_succ_self _) (Nat.zero_le _)
            · have d1 : k < List.length (nM P) := by
                have := mt (nI_leI (by omega) (by omega)).mpr c9
                omega
              refine g_aload_n hX (pc := 49) dX1_digest_49 2 rfl ?_
              refine g_lload_n hX (pc := 50) dX1_digest_50 1 rfl ?_
              refine g_iload_n hX (pc := 51) dX1_digest_51 0 rfl ?_
              refine g_callV hX (pc := 52) kX1_mixMachine (mt_Q_mixMachine E l o n lm lb lr P wm wM fz (dgB P k) k hML (h5) (d1) ((hmk k d1).1) ((hmk k d1).2)) q772 fcX1 (sp_mem (i := 1) rfl) [1, 1, 0, 0, 3] rfl rfl rfl (Nat.le_of_ble_eq_true rfl) (Nat.le_of_ble_eq_true rfl) (Nat.le_of_ble_eq_true rfl) (by omega) (by omega) dX1_digest_52 (fun v w1 hp => ?_)
              obtain ⟨rfl, rfl⟩ := hp
              refine g_nrm (cs1 := [[(o, ob 0 [.ref n])], [(n, ob 1 [.ref lm, .ref lb, .ref lr, .int (nLo P), .int (nNow P)])], wm, wM, fz, wb, wr, wq]) (st1 := [.long (dMach (mAt P k) k (List.length (nM P)) (dgB P k))]) rfl rfl ?_
              refine g_eql (dgB P (k + 1)) (rfl) ?_
              refine g_lstore_n hX (pc := 55) (lv1 := [(1, .long (dgB P (k + 1))), (3, .int (nI k)), (0, .ref o)]) dX1_digest_55 (by decide) rfl ?_
              refine g_iinc hX (pc := 56) (v := nI (k + 1)) (lv1 := [(3, .int (nI (k + 1))), (1, .long (dgB P (k + 1))), (0, .ref o)]) dX1_digest_56 1 rfl (nI_1 _) (by decide) rfl ?_
              refine g_goto hX (pc := 59) (tgt := 33) dX1_digest_59 rfl ?_
              refine g_pk [0, 0, 0, 0, 1, 1, 1, 0] rfl ?_
              refine g_cs (cs1 := [[(o, ob 0 [.ref n])], [(n, ob 1 [.ref lm, .ref lb, .ref lr, .int (nLo P), .int (nNow P)])], wm, wM, wb, wr, wq, fz]) rfl ?_
              refine g_widen (kc1 := 0) (ks1 := 0) (by omega) (by omega) ?_
              exact ih2 (k + 1) (by omega) (by omega)
        refine g_widen (kc1 := 0) (ks1 := 0) (by omega) (by omega) ?_
        exact lp3 ((List.length (nM P) - 0) + 1) 0 (Nat.lt_succ_self _) (Nat.zero_le _)
      · have d1 : i < 11 := by
          have h1 := Int32.not_lt.mp c2
          rw [show (10 : Int32) = nI 10 from rfl] at h1
          have := (nI_leI (by omega) (by omega)).mp h1
          omega
        refine g_lload_n hX (pc := 12) dX1_digest_12 1 rfl ?_
        refine g_aload_n hX (pc := 13) dX1_digest_13 2 rfl ?_
        refine g_get hX (pc := 14) fcX1 0 rfl 0 (by decide) q176 rfl (v := .ref n) rfl dX1_digest_14 ?_
        refine g_iload_n hX (pc := 17) dX1_digest_17 0 rfl ?_
        refine g_callV hX (pc := 18) kX2_many (mt_Net_many E l n lm lb lr P wm wM wb wr wq fz i b0 hML hB hRq (h5) (h40) (hsb) (by omega) (d1)) q748 fcX2 (sp_mem (i := 1) rfl) [1, 1, 1, 1, 1, 1] rfl rfl rfl (Nat.le_of_ble_eq_true rfl) (Nat.le_of_ble_eq_true rfl) (Nat.le_of_ble_eq_true rfl) (by omega) (by omega) dX1_digest_18 (fun v w1 hp => ?_)
        obtain ⟨rfl, rfl⟩ := hp
        refine g_nrm (cs1 := [[(n, ob 1 [.ref lm, .ref lb, .ref lr, .int (nLo P), .int (nNow P)])], wm, wM, wb, wr, wq, [(o, ob 0 [.ref n])], fz]) (st1 := [.int (oMany P i), .long (dgA P i)]) rfl rfl ?_
        refine g_callS hX (pc := 21) kX1_mix (mt_Q_mix E l (dgA P i) (oMany P i)) q768 [] rfl rfl rfl (Nat.le_of_ble_eq_true rfl) (Nat.le_of_ble_eq_true rfl) (Nat.le_of_ble_eq_true rfl) (by omega) (by omega) dX1_digest_21 (fun v w1 hp => ?_)
        obtain ⟨rfl, rfl⟩ := hp
        refine g_nrm (cs1 := [[(n, ob 1 [.ref lm, .ref lb, .ref lr, .int (nLo P), .int (nNow P)])], wm, wM, wb, wr, wq, [(o, ob 0 [.ref n])], fz]) (st1 := [.long (mixD (dgA P i) (oMany P i))]) rfl rfl ?_
        refine g_eql (dgA P (i + 1)) (rfl) ?_
        refine g_lstore_n hX (pc := 24) (lv1 := [(1, .long (dgA P (i + 1))), (3, .int (nI i)), (0, .ref o)]) dX1_digest_24 (by decide) rfl ?_
        refine g_iinc hX (pc := 25) (v := nI (i + 1)) (lv1 := [(3, .int (nI (i + 1))), (1, .long (dgA P (i + 1))), (0, .ref o)]) dX1_digest_25 1 rfl (nI_1 _) (by decide) rfl ?_
        refine g_goto hX (pc := 28) (tgt := 6) dX1_digest_28 rfl ?_
        refine g_pk [6, 0, 0, 0, 0, 0, 0, 0] rfl ?_
        refine g_cs (cs1 := [[(o, ob 0 [.ref n])], [(n, ob 1 [.ref lm, .ref lb, .ref lr, .int (nLo P), .int (nNow P)])], wm, wM, wb, wr, wq, fz]) rfl ?_
        refine g_widen (kc1 := 0) (ks1 := 0) (by omega) (by omega) ?_
        exact ih1 (i + 1) (by omega) (by omega)
  refine g_widen (kc1 := 0) (ks1 := 0) (by omega) (by omega) ?_
  exact lp1 ((11 - 0) + 1) 0 (Nat.lt_succ_self _) (Nat.zero_le _)
