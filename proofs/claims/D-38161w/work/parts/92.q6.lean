set_option maxHeartbeats 4000000 in
theorem mt_Q_mix (E : EE) (l : Launch) (d : Int64) (x : Int32) : Mt E l yX1_mix cX1_mix 3 (some .long) 1 0 0 1 [.long d, .int x] [] (fun (v_ : Option Value) (cs_ : List va_W) => v_ = some (.long (mixD d x)) ∧ cs_ = []) := by
  refine Mt.of (by decide) (Nat.le_of_ble_eq_true rfl) (fun X hX hR hin => ?_)
  refine g_lv1 (lv1 := [(0, .long d), (2, .int x)]) rfl ?_
  refine g_lload_n hX (pc := 0) dX1_mix_0 0 rfl ?_
  refine g_ldc2 hX (pc := 1) (v := 31) q771 dX1_mix_1 ?_
  refine g_lmul hX (pc := 4) dX1_mix_4 ?_
  refine g_iload_n hX (pc := 5) dX1_mix_5 1 rfl ?_
  refine g_i2l hX (pc := 6) (v := Int32.toInt64 x) dX1_mix_6 rfl ?_
  refine g_ladd hX (pc := 7) dX1_mix_7 ?_
  refine g_lret hX (pc := 8) hR ?_ (Nat.le_of_ble_eq_true rfl) (Nat.le_of_ble_eq_true rfl) dX1_mix_8
  exact ⟨rfl, rfl⟩

set_option maxHeartbeats 4000000 in
theorem mt_Q_mixMachine (E : EE) (l : Launch) (o : Nat) (n : Nat) (lm : Nat) (lb : Nat) (lr : Nat) (P : PN) (wm : va_W) (wM : va_W) (fz : va_W) (d : Int64) (k : Nat) (hML : ML E fz lm (nM P) wm wM) (h5 : ((nM P).length ≤ 5)) (hk : (k < (nM P).length)) (hlb : (lLast (mL (mAt P k)) ≤ 1000)) (hvb : (lLast (mV (mAt P k)) ≤ 1000)) : Mt E l yX1_mixMachine cX1_mixMachine 9 (some .long) 6 0 0 110 [.ref o, .long d, .int (nI k)] [[(o, ob 0 [.ref n])], [(n, ob 1 [.ref lm, .ref lb, .ref lr, .int (nLo P), .int (nNow P)])], wm, wM, fz] (fun (v_ : Option Value) (cs_ : List va_W) => v_ = some (.long (dMach (mAt P k) k (List.length (nM P)) d)) ∧ cs_ = [[(o, ob 0 [.ref n])], [(n, ob 1 [.ref lm, .ref lb, .ref lr, .int (nLo P), .int (nNow P)])], wm, wM, fz]) := by
  obtain ⟨M, hM⟩ := get_ex hk
  rw [mAt_get hM] at hlb hvb
  rw [show dMach (mAt P k) k (List.length (nM P)) d = dMach M k (List.length (nM P)) d from by rw [mAt_get hM]]
  have hll : lLast (mL M) = lB (mL M) + (lE (mL M)).length := rfl
  have hlv : lLast (mV M) = lB (mV M) + (lE (mV M)).length := rfl
  refine Mt.of (by decide) (Nat.le_of_ble_eq_true rfl) (fun X hX hR hin => ?_)
  refine g_lv1 (lv1 := [(0, .ref o), (1, .long d), (3, .int (nI k))]) rfl ?_
  refine g_lload_n hX (pc := 0) dX1_mixMachine_0 1 rfl ?_
  refine g_lstore hX (pc := 1) (lv1 := [(4, .long d), (0, .ref o), (1, .long d), (3, .int (nI k))]) dX1_mixMachine_1 (by decide) rfl ?_
  refine g_lv1 (lv1 := [(4, .long (dmA M d 0)), (0, .ref o), (1, .long d), (3, .int (nI k))]) (rfl) ?_
  refine g_iconst hX (pc := 3) (v := 0) dX1_mixMachine_3 (by decide) ?_
  refine g_eqi (nI 0) (nI_0.symm) ?_
  refine g_istore hX (pc := 4) (lv1 := [(6, .int (nI 0)), (4, .long (dmA M d 0)), (0, .ref o), (1, .long d), (3, .int (nI k))]) dX1_mixMachine_4 (by decide) rfl ?_
  have lp1 : ∀ (F1 : Nat) (i : Nat), 9 - i < F1 → (i ≤ 9) → G E l X [[(o, ob 0 [.ref n])], [(n, ob 1 [.ref lm, .ref lb, .ref lr, .int (nLo P), .int (nNow P)])], wm, wM, fz] 0 0 6 [(6, .int (nI i)), (4, .long (dmA M d i)), (0, .ref o), (3, .int (nI k))] [] := by
    intro F1
    induction F1 with
    | zero =>
      intro i hF hi
      exact absurd hF (Nat.not_lt_zero _)
    | succ F1 ih1 =>
      intro i hF hi
      refine g_iload hX (pc := 6) dX1_mixMachine_6 0 rfl ?_
      refine g_bipush hX (pc := 8) (v := 8) dX1_mixMachine_8 (by decide) ?_
      refine g_icmp_gt hX (pc := 10) (tgt := 36) dX1_mixMachine_10 rfl (fun c2 => ?_) (fun c2 => ?_)
      · have d1 : i = 9 := by
          have h1 := c2
          rw [show (8 : Int32) = nI 8 from rfl] at h1
          have := (nI_ltI (by omega) (by omega)).mp h1
          omega
        refine g_lv1 (lv1 := [(6, .int (nI i)), (4, .long (dmB (mL M) (dmA M d 9) 0)), (0, .ref o), (3, .int (nI k))]) (by rw [d1]; rfl) ?_
        refine g_aload_n hX (pc := 36) dX1_mixMachine_36 2 rfl ?_
        refine g_get hX (pc := 37) fcX1 0 rfl 0 (by decide) q176 rfl (v := .ref n) rfl dX1_mixMachine_37 ?_
        refine g_iload_n hX (pc := 40) dX1_mixMachine_40 3 rfl ?_
        obtain ⟨mas3, m4, hAm5, hml6, hmk7, hMI8⟩ := ML.at hML hM
        obtain ⟨rn9, rk10, rl11, rs12, rst13, la14, sp15, lb16, sp217, fn18, fk19, m020, arr21, m122, arr123, h124, h225, h326, h427, h528, h629, h730, hn31⟩ := hMI8.peek
        obtain ⟨rn32, rk33, rl34, rs35, rst36, la37, sp38, m039, arr40, cap41, f42, h143, h244, h345, hents46⟩ := MachIn.ents hMI8
        refine g_callV hX (pc := 41) kX2_at (mt_Net_atP E l n lm lb lr (nLo P) (nNow P) mas3 wm k m4 M fz wM hAm5 hMI8 (hmk7)) q780 fcX2 (sp_mem (i := 1) rfl) [1, 1, 1] rfl rfl rfl (Nat.le_of_ble_eq_true rfl) (Nat.le_of_ble_eq_true rfl) (Nat.le_of_ble_eq_true rfl) (by omega) (by omega) dX1_mixMachine_41 (fun v w1 hp => ?_)
        obtain ⟨rfl, rfl⟩ := hp
        refine g_nrm (cs1 := [[(n, ob 1 [.ref lm, .ref lb, .ref lr, .int (nLo P), .int (nNow P)])], wm, wM, [(o, ob 0 [.ref n])], fz]) (st1 := [.ref m4]) rfl rfl ?_
        refine g_getNm hX (pc := 44) fcX9 (sp_in 2 rfl h143) 3 (by decide) q934 rfl (v := .ref rl34) rfl dX1_mixMachine_44 ?_
        refine g_astore hX (pc := 47) (lv1 := [(6, .ref rl34), (4, .long (dmB (mL M) (dmA M d 9) 0)), (0, .ref o), (3, .int (nI k))]) dX1_mixMachine_47 (by decide) rfl ?_
        refine g_aload hX (pc := 49) dX1_mixMachine_49 0 rfl ?_
        refine g_getNm hX (pc := 51) fcX10 (sp_in 2 rfl h244) 3 (by decide) q853 rfl (v := .int (nI (lB (mL M)))) rfl dX1_mixMachine_51 ?_
        refine g_iconst hX (pc := 54) (v := 1) dX1_mixMachine_54 (by decide) ?_
        refine g_iadd hX (pc := 55) dX1_mixMachine_55 ?_
        refine g_eqi (nI (lB (mL M) + 1 + 0)) (nI_1 _) ?_
        refine g_istore hX (pc := 56) (lv1 := [(7, .int (nI (lB (mL M) + 1 + 0))), (6, .ref rl34), (4, .long (dmB (mL M) (dmA M d 9) 0)), (0, .ref o), (3, .int (nI k))]) dX1_mixMachine_56 (by decide) rfl ?_
        have lp47 : ∀ (F2 : Nat) (i : Nat), List.length (lE (mL M)) - i < F2 → (i ≤ List.length (lE (mL M))) → G E l X [[(o, ob 0 [.ref n])], [(n, ob 1 [.ref lm, .ref lb, .ref lr, .int (nLo P), .int (nNow P)])], wm, wM, fz] 0 0 58 [(7, .int (nI (lB (mL M) + 1 + i))), (4, .long (dmB (mL M) (dmA M d 9) i)), (6, .ref rl34), (0, .ref o), (3, .int (nI k))] [] := by
          intro F2
          induction F2 with
          | zero =>
            intro i hF hi
            exact absurd hF (Nat.not_lt_zero _)
          | succ F2 ih2 =>
            intro i hF hi
            refine g_iload hX (pc := 58) dX1_mixMachine_58 0 rfl ?_
            refine g_aload hX (pc := 60) dX1_mixMachine_60 2 rfl ?_
            refine g_callV hX (pc := 62) kX10_last (mt_Log_lastM E l rl34 la37 (lT (mL M)) (lV (mL M)) (lB (mL M)) (lBT (mL M)) sp38 m039 arr40 (List.length (lE (mL M))) wM (h244) (h345)) q781 fcX10 (sp_in 3 rfl h244) [3] rfl rfl rfl (Nat.le_of_ble_eq_true rfl) (Nat.le_of_ble_eq_true rfl) (Nat.le_of_ble_eq_true rfl) (by omega) (by omega) dX1_mixMachine_62 (fun v w1 hp => ?_)
            obtain ⟨rfl, rfl⟩ := hp
            refine g_nrm (cs1 := [wM, [(o, ob 0 [.ref n])], [(n, ob 1 [.ref lm, .ref lb, .ref lr, .int (nLo P), .int (nNow P)])], wm, fz]) (st1 := [.int (nI ((lB (mL M)) + (List.length (lE (mL M))))), .int (nI (lB (mL M) + 1 + i))]) rfl rfl ?_
            refine g_icmp_gt hX (pc := 65) (tgt := 106) dX1_mixMachine_65 rfl (fun c48 => ?_) (fun c48 => ?_)
            · have d1 : i = List.length (lE (mL M)) := by
                have := (nI_ltI (by omega) (by omega)).mp c48
                omega
              refine g_lv1 (lv1 := [(7, .int (nI (lB (mL M) + 1 + i))), (4, .long (dmC M k (dmB (mL M) (dmA M d 9) (List.length (lE (mL M)))) 0)), (6, .ref rl34), (0, .ref o), (3, .int (nI k))]) (by subst d1; rfl) ?_
              refine g_iconst hX (pc := 106) (v := 0) dX1_mixMachine_106 (by decide) ?_
              refine g_eqi (nI 0) (nI_0.symm) ?_
              refine g_istore hX (pc := 107) (lv1 := [(7, .int (nI 0)), (4, .long (dmC M k (dmB (mL M) (dmA M d 9) (List.length (lE (mL M)))) 0)), (6, .ref rl34), (0, .ref o), (3, .int (nI k))]) dX1_mixMachine_107 (by decide) rfl ?_
              have lp49 : ∀ (F3 : Nat) (i : Nat), List.length (nM P) - i < F3 → (i ≤ List.length (nM P)) → G E l X [[(o, ob 0 [.ref n])], [(n, ob 1 [.ref lm, .ref lb, .ref lr, .int (nLo P), .int (nNow P)])], wm, wM, fz] 0 0 109 [(7, .int (nI i)), (4, .long (dmC M k (dmB (mL M) (dmA M d 9) (List.length (lE (mL M)))) i)), (0, .ref o), (3, .int (nI k))] [] := by
                intro F3
                induction F3 with
                | zero =>
                  intro i hF hi
                  exact absurd hF (Nat.not_lt_zero _)
                | succ F3 ih3 =>
                  intro i hF hi
                  refine g_iload hX (pc := 109) dX1_mixMachine_109 0 rfl ?_
                  refine g_aload_n hX (pc := 111) dX1_mixMachine_111 2 rfl ?_
                  refine g_get hX (pc := 112) fcX1 0 rfl 0 (by decide) q176 rfl (v := .ref n) rfl dX1_mixMachine_112 ?_
                  refine g_getN hX (pc := 115) fcX2 1 rfl 0 (by decide) q156 rfl (v := .ref lm) rfl dX1_mixMachine_115 ?_
                  obtain ⟨as50, hal51, hln52⟩ := ML.al hML
                  obtain ⟨fs53, hm54⟩ := AL.head hal51
                  refine g_callF hX (pc := 118) kfJ2_size (mt_AL_size E l lm as50 wm hal51) q738 fcJ2 (sp_in 2 rfl hm54) [2] rfl rfl rfl (Nat.le_of_ble_eq_true rfl) (Nat.le_of_ble_eq_true rfl) (Nat.le_of_ble_eq_true rfl) (by omega) (by omega) dX1_mixMachine_118 (fun v w1 hp => ?_)
                  obtain ⟨rfl, rfl⟩ := hp
                  refine g_nrm (cs1 := [wm, [(o, ob 0 [.ref n])], [(n, ob 1 [.ref lm, .ref lb, .ref lr, .int (nLo P), .int (nNow P)])], wM, fz]) (st1 := [.int (nI (List.length as50)), .int (nI i)]) rfl rfl ?_
                  refine g_eqi (nI (List.length (nM P))) (by rw [hln52]) ?_
                  refine g_icmp_ge hX (pc := 123) (tgt := 164) dX1_mixMachine_123 rfl (fun c55 => ?_) (fun c55 => ?_)
                  · have d1 : i = List.length (nM P) := by
                      have := (nI_leI (by omega) (by omega)).mp c55
                      omega
                    refine g_lv1 (lv1 := [(7, .int (nI i)), (4, .long (dmD (mS M) (dmC M k (dmB (mL M) (dmA M d 9) (List.length (lE (mL M)))) (List.length (nM P))) 0)), (0, .ref o), (3, .int (nI k))]) (by subst d1; rfl) ?_
                    refine g_iconst hX (pc := 164) (v := 0) dX1_mixMachine_164 (by decide) ?_
                    refine g_eqi (nI 0) (nI_0.symm) ?_
                    refine g_istore hX (pc := 165) (lv1 := [(7, .int (nI 0)), (4, .long (dmD (mS M) (dmC M k (dmB (mL M) (dmA M d 9) (List.length (lE (mL M)))) (List.length (nM P))) 0)), (0, .ref o), (3, .int (nI k))]) dX1_mixMachine_165 (by decide) rfl ?_
                    have lp56 : ∀ (F4 : Nat) (y : Nat), 4 - y < F4 → (y ≤ 4) → G E l X [[(o, ob 0 [.ref n])], [(n, ob 1 [.ref lm, .ref lb, .ref lr, .int (nLo P), .int (nNow P)])], wm, wM, fz] 0 0 167 [(7, .int (nI y)), (4, .long (dmD (mS M) (dmC M k (dmB (mL M) (dmA M d 9) (List.length (lE (mL M)))) (List.length (nM P))) y)), (0, .ref o), (3, .int (nI k))] [] := by
                      intro F4
                      induction F4 with
                      | zero =>
                        intro y hF hy
                        exact absurd hF (Nat.not_lt_zero _)
                      | succ F4 ih4 =>
                        intro y hF hy
                        refine g_iload hX (pc := 167) dX1_mixMachine_167 0 rfl ?_
                        refine g_iconst hX (pc := 169) (v := 4) dX1_mixMachine_169 (by decide) ?_
                        refine g_icmp_ge hX (pc := 170) (tgt := 219) dX1_mixMachine_170 rfl (fun c57 => ?_) (fun c57 => ?_)
                        · have d2 : y = 4 := by
                            have h1 := c57
                            rw [show (4 : Int32) = nI 4 from rfl] at h1
                            have := (nI_leI (by omega) (by omega)).mp h1
                            omega
                          refine g_lv1 (lv1 := [(7, .int (nI y)), (4, .long (dmD (mS M) (dmC M k (dmB (mL M) (dmA M d 9) (List.length (lE (mL M)))) (List.length (nM P))) 4)), (0, .ref o), (3, .int (nI k))]) (by rw [d2]) ?_
                          refine g_lload hX (pc := 219) dX1_mixMachine_219 1 rfl ?_
                          refine g_aload_n hX (pc := 221) dX1_mixMachine_221 2 rfl ?_
                          refine g_get hX (pc := 222) fcX1 0 rfl 0 (by decide) q176 rfl (v := .ref n) rfl dX1_mixMachine_222 ?_
                          refine g_iload_n hX (pc := 225) dX1_mixMachine_225 3 rfl ?_
                          obtain ⟨mas58, m59, hAm60, hml61, hmk62, hMI63⟩ := ML.at hML hM
                          obtain ⟨rn64, rk65, rl66, rs67, rst68, la69, sp70, lb71, sp272, fn73, fk74, m075, arr76, m177, arr178, h179, h280, h381, h482, h583, h684, h785, hn86⟩ := hMI63.peek
                          refine g_callV hX (pc := 226) kX2_at (mt_Net_atP E l n lm lb lr (nLo P) (nNow P) mas58 wm k m59 M fz wM hAm60 hMI63 (hmk62)) q780 fcX2 (sp_mem (i := 1) rfl) [1, 1, 1] rfl rfl rfl (Nat.le_of_ble_eq_true rfl) (Nat.le_of_ble_eq_true rfl) (Nat.le_of_ble_eq_true rfl) (by omega) (by omega) dX1_mixMachine_226 (fun v w1 hp => ?_)
                          obtain ⟨rfl, rfl⟩ := hp
                          refine g_nrm (cs1 := [[(n, ob 1 [.ref lm, .ref lb, .ref lr, .int (nLo P), .int (nNow P)])], wm, wM, [(o, ob 0 [.ref n])], fz]) (st1 := [.ref m59, .long (dmD (mS M) (dmC M k (dmB (mL M) (dmA M d 9) (List.length (lE (mL M)))) (List.length (nM P))) 4)]) rfl rfl ?_
                          refine g_getNm hX (pc := 229) fcX9 (sp_in 2 rfl h179) 4 (by decide) q936 rfl (v := .ref rs67) rfl dX1_mixMachine_229 ?_
                          refine g_callV hX (pc := 232) kX10_last (mt_Log_lastM E l rs67 lb71 (lT (mV M)) (lV (mV M)) (lB (mV M)) (lBT (mV M)) sp272 m177 arr178 (List.length (lE (mV M))) wM (h684) (h785)) q781 fcX10 (sp_in 2 rfl h684) [2] rfl rfl rfl (Nat.le_of_ble_eq_true rfl) (Nat.le_of_ble_eq_true rfl) (Nat.le_of_ble_eq_true rfl) (by omega) (by omega) dX1_mixMachine_232 (fun v w1 hp => ?_)
                          obtain ⟨rfl, rfl⟩ := hp
                          refine g_nrm (cs1 := [wM, [(n, ob 1 [.ref lm, .ref lb, .ref lr, .int (nLo P), .int (nNow P)])], wm, [(o, ob 0 [.ref n])], fz]) (st1 := [.int (nI ((lB (mV M)) + (List.length (lE (mV M))))), .long (dmD (mS M) (dmC M k (dmB (mL M) (dmA M d 9) (List.length (lE (mL M)))) (List.length (nM P))) 4)]) rfl rfl ?_
                          refine g_callS hX (pc := 235) kX1_mix (mt_Q_mix E l (dmD (mS M) (dmC M k (dmB (mL M) (dmA M d 9) (List.length (lE (mL M)))) (List.length (nM P))) 4) (nI ((lB (mV M)) + (List.length (lE (mV M)))))) q768 [] rfl rfl rfl (Nat.le_of_ble_eq_true rfl) (Nat.le_of_ble_eq_true rfl) (Nat.le_of_ble_eq_true rfl) (by omega) (by omega) dX1_mixMachine_235 (fun v w1 hp => ?_)
                          obtain ⟨rfl, rfl⟩ := hp
                          refine g_nrm (cs1 := [wM, [(n, ob 1 [.ref lm, .ref lb, .ref lr, .int (nLo P), .int (nNow P)])], wm, [(o, ob 0 [.ref n])], fz]) (st1 := [.long (mixD (dmD (mS M) (dmC M k (dmB (mL M) (dmA M d 9) (List.length (lE (mL M)))) (List.length (nM P))) 4) (nI ((lB (mV M)) + (List.length (lE (mV M))))))]) rfl rfl ?_
                          refine g_pk [3, 1, 1, 0, 0] rfl ?_
                          refine g_cs (cs1 := [[(o, ob 0 [.ref n])], [(n, ob 1 [.ref lm, .ref lb, .ref lr, .int (nLo P), .int (nNow P)])], wm, wM, fz]) rfl ?_
                          refine g_lret hX (pc := 238) hR ?_ (by omega) (by omega) dX1_mixMachine_238
                          exact ⟨rfl, rfl⟩
                        · have d2 : y < 4 := by
                            have h1 := c57
                            rw [show (4 : Int32) = nI 4 from rfl] at h1
                            have := mt (nI_leI (by omega) (by omega)).mpr h1
                            omega
                          refine g_lv1 (lv1 := [(7, .int (nI y)), (4, .long (dmE (mS M) y (dmD (mS M) (dmC M k (dmB (mL M) (dmA M d 9) (List.length (lE (mL M)))) (List.length (nM P))) y) 0)), (0, .ref o), (3, .int (nI k))]) (rfl) ?_
                          refine g_iconst hX (pc := 173) (v := 0) dX1_mixMachine_173 (by decide) ?_
                          refine g_eqi (nI 0) (nI_0.symm) ?_
                          refine g_istore hX (pc := 174) (lv1 := [(8, .int (nI 0)), (7, .int (nI y)), (4, .long (dmE (mS M) y (dmD (mS M) (dmC M k (dmB (mL M) (dmA M d 9) (List.length (lE (mL M)))) (List.length (nM P))) y) 0)), (0, .ref o), (3, .int (nI k))]) dX1_mixMachine_174 (by decide) rfl ?_
                          have lp87 : ∀ (F5 : Nat) (z : Nat), 5 - z < F5 → (z ≤ 5) → G E l X [[(o, ob 0 [.ref n])], [(n, ob 1 [.ref lm, .ref lb, .ref lr, .int (nLo P), .int (nNow P)])], wm, wM, fz] 0 0 176 [(8, .int (nI z)), (7, .int (nI y)), (4, .long (dmE (mS M) y (dmD (mS M) (dmC M k (dmB (mL M) (dmA M d 9) (List.length (lE (mL M)))) (List.length (nM P))) y) z)), (0, .ref o), (3, .int (nI k))] [] := by
                            intro F5
                            induction F5 with
                            | zero =>
                              intro z hF hz
                              exact absurd hF (Nat.not_lt_zero _)
                            | succ F5 ih5 =>
                              intro z hF hz
                              refine g_iload hX (pc := 176) dX1_mixMachine_176 0 rfl ?_
                              refine g_iconst hX (pc := 178) (v := 4) dX1_mixMachine_178 (by decide) ?_
                              refine g_icmp_gt hX (pc := 179) (tgt := 213) dX1_mixMachine_179 rfl (fun c88 => ?_) (fun c88 => ?_)
                              · have d3 : z = 5 := by
                                  have h1 := c88
                                  rw [show (4 : Int32) = nI 4 from rfl] at h1
                                  have := (nI_ltI (by omega) (by omega)).mp h1
                                  omega
                                refine g_lv1 (lv1 := [(8, .int (nI z)), (7, .int (nI y)), (4, .long (dmD (mS M) (dmC M k (dmB (mL M) (dmA M d 9) (List.length (lE (mL M)))) (List.length (nM P))) (y + 1))), (0, .ref o), (3, .int (nI k))]) (by rw [d3]; rfl) ?_
                                refine g_iinc hX (pc := 213) (v := nI (y + 1)) (lv1 := [(7, .int (nI (y + 1))), (8, .int (nI z)), (4, .long (dmD (mS M) (dmC M k (dmB (mL M) (dmA M d 9) (List.length (lE (mL M)))) (List.length (nM P))) (y + 1))), (0, .ref o), (3, .int (nI k))]) dX1_mixMachine_213 1 rfl (nI_1 _) (by decide) rfl ?_
                                refine g_goto hX (pc := 216) (tgt := 167) dX1_mixMachine_216 rfl ?_
                                refine g_lv (lv1 := [(7, .int (nI (y + 1))), (4, .long (dmD (mS M) (dmC M k (dmB (mL M) (dmA M d 9) (List.length (lE (mL M)))) (List.length (nM P))) (y + 1))), (0, .ref o), (3, .int (nI k))]) [0, 2, 3, 4] rfl ?_
                                refine g_widen (kc1 := 0) (ks1 := 0) (by omega) (by omega) ?_
                                exact ih4 (y + 1) (by omega) (by omega)
                              · have d3 : z < 5 := by
                                  have h1 := Int32.not_lt.mp c88
                                  rw [show (4 : Int32) = nI 4 from rfl] at h1
                                  have := (nI_leI (by omega) (by omega)).mp h1
                                  omega
                                refine g_lload hX (pc := 182) dX1_mixMachine_182 2 rfl ?_
                                refine g_aload_n hX (pc := 184) dX1_mixMachine_184 3 rfl ?_
                                refine g_get hX (pc := 185) fcX1 0 rfl 0 (by decide) q176 rfl (v := .ref n) rfl dX1_mixMachine_185 ?_
                                refine g_iload_n hX (pc := 188) dX1_mixMachine_188 4 rfl ?_
                                obtain ⟨mas89, m90, hAm91, hml92, hmk93, hMI94⟩ := ML.at hML hM
                                obtain ⟨rn95, rk96, rl97, rs98, rst99, sr100, f0101, f1102, f2103, f3104, f4105, f5106, h1107, h6108, h0109, k0110, k1111, k2112, k3113⟩ := MachIn.sto hMI94
                                refine g_callV hX (pc := 189) kX2_at (mt_Net_atP E l n lm lb lr (nLo P) (nNow P) mas89 wm k m90 M fz wM hAm91 hMI94 (hmk93)) q780 fcX2 (sp_mem (i := 1) rfl) [1, 1, 1] rfl rfl rfl (Nat.le_of_ble_eq_true rfl) (Nat.le_of_ble_eq_true rfl) (Nat.le_of_ble_eq_true rfl) (by omega) (by omega) dX1_mixMachine_189 (fun v w1 hp => ?_)
                                obtain ⟨rfl, rfl⟩ := hp
                                refine g_nrm (cs1 := [[(n, ob 1 [.ref lm, .ref lb, .ref lr, .int (nLo P), .int (nNow P)])], wm, wM, [(o, ob 0 [.ref n])], fz]) (st1 := [.ref m90, .long (dmE (mS M) y (dmD (mS M) (dmC M k (dmB (mL M) (dmA M d 9) (List.length (lE (mL M)))) (List.length (nM P))) y) z)]) rfl rfl ?_
                                refine g_getNm hX (pc := 192) fcX9 (sp_in 2 rfl h1107) 5 (by decide) q939 rfl (v := .ref rst99) rfl dX1_mixMachine_192 ?_
                                refine g_iload hX (pc := 195) dX1_mixMachine_195 1 rfl ?_
                                refine g_iload hX (pc := 197) dX1_mixMachine_197 0 rfl ?_
                                refine g_callV hX (pc := 199) kX8_told (mt_Store_toldM E l rst99 sr100 (mS M) f0101 f1102 f2103 f3104 f4105 f5106 wM y z (h6108) (h0109) (k0110) (k1111) (k2112) (k3113) (by omega) (by omega)) q790 fcX8 (sp_in 2 rfl h0109) [2] rfl rfl rfl (Nat.le_of_ble_eq_true rfl) (Nat.le_of_ble_eq_true rfl) (Nat.le_of_ble_eq_true rfl) (by omega) (by omega) dX1_mixMachine_199 (fun v w1 hp => ?_)
                                obtain ⟨rfl, rfl⟩ := hp
                                refine g_nrm (cs1 := [wM, [(n, ob 1 [.ref lm, .ref lb, .ref lr, .int (nLo P), .int (nNow P)])], wm, [(o, ob 0 [.ref n])], fz]) (st1 := [.int (oSto (mS M) y z), .long (dmE (mS M) y (dmD (mS M) (dmC M k (dmB (mL M) (dmA M d 9) (List.length (lE (mL M)))) (List.length (nM P))) y) z)]) rfl rfl ?_
                                refine g_callS hX (pc := 202) kX1_mix (mt_Q_mix E l (dmE (mS M) y (dmD (mS M) (dmC M k (dmB (mL M) (dmA M d 9) (List.length (lE (mL M)))) (List.length (nM P))) y) z) (oSto (mS M) y z)) q768 [] rfl rfl rfl (Nat.le_of_ble_eq_true rfl) (Nat.le_of_ble_eq_true rfl) (Nat.le_of_ble_eq_true rfl) (by omega) (by omega) dX1_mixMachine_202 (fun v w1 hp => ?_)
                                obtain ⟨rfl, rfl⟩ := hp
                                refine g_nrm (cs1 := [wM, [(n, ob 1 [.ref lm, .ref lb, .ref lr, .int (nLo P), .int (nNow P)])], wm, [(o, ob 0 [.ref n])], fz]) (st1 := [.long (mixD (dmE (mS M) y (dmD (mS M) (dmC M k (dmB (mL M) (dmA M d 9) (List.length (lE (mL M)))) (List.length (nM P))) y) z) (oSto (mS M) y z))]) rfl rfl ?_
                                refine g_eql (dmE (mS M) y (dmD (mS M) (dmC M k (dmB (mL M) (dmA M d 9) (List.length (lE (mL M)))) (List.length (nM P))) y) (z + 1)) (rfl) ?_
                                refine g_lstore hX (pc := 205) (lv1 := [(4, .long (dmE (mS M) y (dmD (mS M) (dmC M k (dmB (mL M) (dmA M d 9) (List.length (lE (mL M)))) (List.length (nM P))) y) (z + 1))), (8, .int (nI z)), (7, .int (nI y)), (0, .ref o), (3, .int (nI k))]) dX1_mixMachine_205 (by decide) rfl ?_
                                refine g_iinc hX (pc := 207) (v := nI (z + 1)) (lv1 := [(8, .int (nI (z + 1))), (4, .long (dmE (mS M) y (dmD (mS M) (dmC M k (dmB (mL M) (dmA M d 9) (List.length (lE (mL M)))) (List.length (nM P))) y) (z + 1))), (7, .int (nI y)), (0, .ref o), (3, .int (nI k))]) dX1_mixMachine_207 1 rfl (nI_1 _) (by decide) rfl ?_
                                refine g_goto hX (pc := 210) (tgt := 176) dX1_mixMachine_210 rfl ?_
                                refine g_pk [3, 1, 1, 0, 0] rfl ?_
                                refine g_cs (cs1 := [[(o, ob 0 [.ref n])], [(n, ob 1 [.ref lm, .ref lb, .ref lr, .int (nLo P), .int (nNow P)])], wm, wM, fz]) rfl ?_
                                refine g_lv (lv1 := [(8, .int (nI (z + 1))), (7, .int (nI y)), (4, .long (dmE (mS M) y (dmD (mS M) (dmC M k (dmB (mL M) (dmA M d 9) (List.length (lE (mL M)))) (List.length (nM P))) y) (z + 1))), (0, .ref o), (3, .int (nI k))]) [0, 2, 1, 3, 4] rfl ?_
                                refine g_widen (kc1 := 0) (ks1 := 0) (by omega) (by omega) ?_
                                exact ih5 (z + 1) (by omega) (by omega)
                          refine g_widen (kc1 := 0) (ks1 := 0) (by omega) (by omega) ?_
                          exact lp87 ((5 - 0) + 1) 0 (Nat.lt_succ_self _) (Nat.zero_le _)
                    refine g_pk [1, 1, 0, 0, 0] rfl ?_
                    refine g_cs (cs1 := [[(o, ob 0 [.ref n])], [(n, ob 1 [.ref lm, .ref lb, .ref lr, .int (nLo P), .int (nNow P)])], wm, wM, fz]) rfl ?_
                    refine g_widen (kc1 := 0) (ks1 := 0) (by omega) (by omega) ?_
                    exact lp56 ((4 - 0) + 1) 0 (Nat.lt_succ_self _) (Nat.zero_le _)
                  · have d1 : i < List.length (nM P) := by
                      have := mt (nI_leI (by omega) (by omega)).mpr c55
                      omega
                    refine g_lload hX (pc := 126) dX1_mixMachine_126 1 rfl ?_
                    refine g_aload_n hX (pc := 128) dX1_mixMachine_128 2 rfl ?_
                    refine g_get hX (pc := 129) fcX1 1 rfl 0 (by decide) q176 rfl (v := .ref n) rfl dX1_mixMachine_129 ?_
                    refine g_iload_n hX (pc := 132) dX1_mixMachine_132 3 rfl ?_
                    refine g_iload hX (pc := 133) dX1_mixMachine_133 0 rfl ?_
                    refine g_iconst hX (pc := 135) (v := 1) dX1_mixMachine_135 (by decide) ?_
                    refine g_eqi (bI true) (rfl) ?_
                    refine g_callV hX (pc := 136) kX2_follows (mt_Net_follows E l n lm lb lr P wm wM fz k i true hML (hk) (by omega) (by omega)) q786 fcX2 (sp_mem (i := 2) rfl) [2, 0, 1] rfl rfl rfl (Nat.le_of_ble_eq_true rfl) (Nat.le_of_ble_eq_true rfl) (Nat.le_of_ble_eq_true rfl) (by omega) (by omega) dX1_mixMachine_136 (fun v w1 hp => ?_)
                    obtain ⟨rfl, rfl⟩ := hp
                    refine g_nrm (cs1 := [[(n, ob 1 [.ref lm, .ref lb, .ref lr, .int (nLo P), .int (nNow P)])], wm, wM, [(o, ob 0 [.ref n])], fz]) (st1 := [.int (oFol (mAt P k) k i true), .long (dmC M k (dmB (mL M) (dmA M d 9) (List.length (lE (mL M)))) i)]) rfl rfl ?_
                    refine g_eqi (oFol M k i true) (by rw [mAt_get hM]) ?_
                    refine g_callS hX (pc := 139) kX1_mix (mt_Q_mix E l (dmC M k (dmB (mL M) (dmA M d 9) (List.length (lE (mL M)))) i) (oFol M k i true)) q768 [] rfl rfl rfl (Nat.le_of_ble_eq_true rfl) (Nat.le_of_ble_eq_true rfl) (Nat.le_of_ble_eq_true rfl) (by omega) (by omega) dX1_mixMachine_139 (fun v w1 hp => ?_)
                    obtain ⟨rfl, rfl⟩ := hp
                    refine g_nrm (cs1 := [[(n, ob 1 [.ref lm, .ref lb, .ref lr, .int (nLo P), .int (nNow P)])], wm, wM, [(o, ob 0 [.ref n])], fz]) (st1 := [.long (mixD (dmC M k (dmB (mL M) (dmA M d 9) (List.length (lE (mL M)))) i) (oFol M k i true))]) rfl rfl ?_
                    refine g_aload_n hX (pc := 142) dX1_mixMachine_142 2 rfl ?_
                    refine g_get hX (pc := 143) fcX1 3 rfl 0 (by decide) q176 rfl (v := .ref n) rfl dX1_mixMachine_143 ?_
                    refine g_iload_n hX (pc := 146) dX1_mixMachine_146 3 rfl ?_
                    refine g_iload hX (pc := 147) dX1_mixMachine_147 0 rfl ?_
                    refine g_iconst hX (pc := 149) (v := 0) dX1_mixMachine_149 (by decide) ?_
                    refine g_eqi (bI false) (rfl) ?_
                    refine g_callV hX (pc := 150) kX2_follows (mt_Net_follows E l n lm lb lr P wm wM fz k i false hML (hk) (by omega) (by omega)) q786 fcX2 (sp_mem (i := 0) rfl) [0, 0, 0] rfl rfl rfl (Nat.le_of_ble_eq_true rfl) (Nat.le_of_ble_eq_true rfl) (Nat.le_of_ble_eq_true rfl) (by omega) (by omega) dX1_mixMachine_150 (fun v w1 hp => ?_)
                    obtain ⟨rfl, rfl⟩ := hp
                    refine g_nrm (cs1 := [[(n, ob 1 [.ref lm, .ref lb, .ref lr, .int (nLo P), .int (nNow P)])], wm, wM, [(o, ob 0 [.ref n])], fz]) (st1 := [.int (oFol (mAt P k) k i false), .long (mixD (dmC M k (dmB (mL M) (dmA M d 9) (List.length (lE (mL M)))) i) (oFol M k i true))]) rfl rfl ?_
                    refine g_eqi (oFol M k i false) (by rw [mAt_get hM]) ?_
                    refine g_callS hX (pc := 153) kX1_mix (mt_Q_mix E l (mixD (dmC M k (dmB (mL M) (dmA M d 9) (List.length (lE (mL M)))) i) (oFol M k i true)) (oFol M k i false)) q768 [] rfl rfl rfl (Nat.le_of_ble_eq_true rfl) (Nat.le_of_ble_eq_true rfl) (Nat.le_of_ble_eq_true rfl) (by omega) (by omega) dX1_mixMachine_153 (fun v w1 hp => ?_)
                    obtain ⟨rfl, rfl⟩ := hp
                    refine g_nrm (cs1 := [[(n, ob 1 [.ref lm, .ref lb, .ref lr, .int (nLo P), .int (nNow P)])], wm, wM, [(o, ob 0 [.ref n])], fz]) (st1 := [.long (mixD (mixD (dmC M k (dmB (mL M) (dmA M d 9) (List.length (lE (mL M)))) i) (oFol M k i true)) (oFol M k i false))]) rfl rfl ?_
                    refine g_eql (dmC M k (dmB (mL M) (dmA M d 9) (List.length (lE (mL M)))) (i + 1)) (rfl) ?_
                    refine g_lstore hX (pc := 156) (lv1 := [(4, .long (dmC M k (dmB (mL M) (dmA M d 9) (List.length (lE (mL M)))) (i + 1))), (7, .int (nI i)), (0, .ref o), (3, .int (nI k))]) dX1_mixMachine_156 (by decide) rfl ?_
                    refine g_iinc hX (pc := 158) (v := nI (i + 1)) (lv1 := [(7, .int (nI (i + 1))), (4, .long (dmC M k (dmB (mL M) (dmA M d 9) (List.length (lE (mL M)))) (i + 1))), (0, .ref o), (3, .int (nI k))]) dX1_mixMachine_158 1 rfl (nI_1 _) (by decide) rfl ?_
                    refine g_goto hX (pc := 161) (tgt := 109) dX1_mixMachine_161 rfl ?_
                    refine g_pk [3, 0, 0, 0, 0] rfl ?_
                    refine g_cs (cs1 := [[(o, ob 0 [.ref n])], [(n, ob 1 [.ref lm, .ref lb, .ref lr, .int (nLo P), .int (nNow P)])], wm, wM, fz]) rfl ?_
                    refine g_widen (kc1 := 0) (ks1 := 0) (by omega) (by omega) ?_
                    exact ih3 (i + 1) (by omega) (by omega)
              refine g_pk [1, 1, 1, 0, 0] rfl ?_
              refine g_cs (cs1 := [[(o, ob 0 [.ref n])], [(n, ob 1 [.ref lm, .ref lb, .ref lr, .int (nLo P), .int (nNow P)])], wm, wM, fz]) rfl ?_
              refine g_lv (lv1 := [(7, .int (nI 0)), (4, .long (dmC M k (dmB (mL M) (dmA M d 9) (List.length (lE (mL M)))) 0)), (0, .ref o), (3, .int (nI k))]) [0, 1, 3, 4] rfl ?_
              refine g_widen (kc1 := 0) (ks1 := 0) (by omega) (by omega) ?_
              exact lp49 ((List.length (nM P) - 0) + 1) 0 (Nat.lt_succ_self _) (Nat.zero_le _)
            · have d1 : i < List.length (lE (mL M)) := by
                have h1 := Int32.not_lt.mp c48
                have := (nI_leI (by omega) (by omega)).mp h1
                omega
              obtain ⟨hq1, hq2, y114, e115, hq3, hq4, hq5⟩ := hents46 i d1
              have hnn : lB (mL M) + 1 + i - lB (mL M) - 1 = i := by omega
              have heg : enG (mL M) (lB (mL M) + 1 + i) = e115 := by unfold enG; rw [hnn, hq5]; rfl
              refine g_lload hX (pc := 68) dX1_mixMachine_68 1 rfl ?_
              refine g_aload hX (pc := 70) dX1_mixMachine_70 2 rfl ?_
              refine g_iload hX (pc := 72) dX1_mixMachine_72 0 rfl ?_
              refine g_callV hX (pc := 74) kX10_at (mt_Log_atM E l rl34 la37 (lT (mL M)) (lV (mL M)) (lB (mL M)) (lBT (mL M)) sp38 m039 arr40 (List.length (lE (mL M))) cap41 f42 (lB (mL M) + 1 + i) y114 e115 wM fz (h244) (h345) (hq1) (by omega) (by omega) (by omega) (hq2.1) (hq2.2) (by rw [hnn]; exact hq3) (hq4)) q782 fcX10 (sp_in 0 rfl h244) [0, 3] rfl rfl rfl (Nat.le_of_ble_eq_true rfl) (Nat.le_of_ble_eq_true rfl) (Nat.le_of_ble_eq_true rfl) (by omega) (by omega) dX1_mixMachine_74 (fun v w1 hp => ?_)
              obtain ⟨rfl, rfl⟩ := hp
              refine g_nrm (cs1 := [wM, fz, [(o, ob 0 [.ref n])], [(n, ob 1 [.ref lm, .ref lb, .ref lr, .int (nLo P), .int (nNow P)])], wm]) (st1 := [.ref y114, .long (dmB (mL M) (dmA M d 9) i)]) rfl rfl ?_
              refine g_iconst hX (pc := 77) (v := 0) dX1_mixMachine_77 (by decide) ?_
              refine g_eqi (nI 0) (nI_0.symm) ?_
              refine g_callS hX (pc := 78) kX1_entryNow (mt_Q_entryNow E l y114 e115 0 fz (hq4) (by omega)) q783 [1] rfl rfl rfl (Nat.le_of_ble_eq_true rfl) (Nat.le_of_ble_eq_true rfl) (Nat.le_of_ble_eq_true rfl) (by omega) (by omega) dX1_mixMachine_78 (fun v w1 hp => ?_)
              obtain ⟨rfl, rfl⟩ := hp
              refine g_nrm (cs1 := [fz, wM, [(o, ob 0 [.ref n])], [(n, ob 1 [.ref lm, .ref lb, .ref lr, .int (nLo P), .int (nNow P)])], wm]) (st1 := [.int (oEn e115 0), .long (dmB (mL M) (dmA M d 9) i)]) rfl rfl ?_
              refine g_callS hX (pc := 81) kX1_mix (mt_Q_mix E l (dmB (mL M) (dmA M d 9) i) (oEn e115 0)) q768 [] rfl rfl rfl (Nat.le_of_ble_eq_true rfl) (Nat.le_of_ble_eq_true rfl) (Nat.le_of_ble_eq_true rfl) (by omega) (by omega) dX1_mixMachine_81 (fun v w1 hp => ?_)
              obtain ⟨rfl, rfl⟩ := hp
              refine g_nrm (cs1 := [fz, wM, [(o, ob 0 [.ref n])], [(n, ob 1 [.ref lm, .ref lb, .ref lr, .int (nLo P), .int (nNow P)])], wm]) (st1 := [.long (mixD (dmB (mL M) (dmA M d 9) i) (oEn e115 0))]) rfl rfl ?_
              refine g_aload hX (pc := 84) dX1_mixMachine_84 2 rfl ?_
              refine g_iload hX (pc := 86) dX1_mixMachine_86 0 rfl ?_
              refine g_callV hX (pc := 88) kX10_at (mt_Log_atM E l rl34 la37 (lT (mL M)) (lV (mL M)) (lB (mL M)) (lBT (mL M)) sp38 m039 arr40 (List.length (lE (mL M))) cap41 f42 (lB (mL M) + 1 + i) y114 e115 wM fz (h244) (h345) (hq1) (by omega) (by omega) (by omega) (hq2.1) (hq2.2) (by rw [hnn]; exact hq3) (hq4)) q782 fcX10 (sp_in 1 rfl h244) [1, 0] rfl rfl rfl (Nat.le_of_ble_eq_true rfl) (Nat.le_of_ble_eq_true rfl) (Nat.le_of_ble_eq_true rfl) (by omega) (by omega) dX1_mixMachine_88 (fun v w1 hp => ?_)
              obtain ⟨rfl, rfl⟩ := hp
              refine g_nrm (cs1 := [wM, fz, [(o, ob 0 [.ref n])], [(n, ob 1 [.ref lm, .ref lb, .ref lr, .int (nLo P), .int (nNow P)])], wm]) (st1 := [.ref y114, .long (mixD (dmB (mL M) (dmA M d 9) i) (oEn e115 0))]) rfl rfl ?_
              refine g_iconst hX (pc := 91) (v := 1) dX1_mixMachine_91 (by decide) ?_
              refine g_eqi (nI 1) (rfl) ?_
              refine g_callS hX (pc := 92) kX1_entryNow (mt_Q_entryNow E l y114 e115 1 fz (hq4) (by omega)) q783 [1] rfl rfl rfl (Nat.le_of_ble_eq_true rfl) (Nat.le_of_ble_eq_true rfl) (Nat.le_of_ble_eq_true rfl) (by omega) (by omega) dX1_mixMachine_92 (fun v w1 hp => ?_)
              obtain ⟨rfl, rfl⟩ := hp
              refine g_nrm (cs1 := [fz, wM, [(o, ob 0 [.ref n])], [(n, ob 1 [.ref lm, .ref lb, .ref lr, .int (nLo P), .int (nNow P)])], wm]) (st1 := [.int (oEn e115 1), .long (mixD (dmB (mL M) (dmA M d 9) i) (oEn e115 0))]) rfl rfl ?_
              refine g_callS hX (pc := 95) kX1_mix (mt_Q_mix E l (mixD (dmB (mL M) (dmA M d 9) i) (oEn e115 0)) (oEn e115 1)) q768 [] rfl rfl rfl (Nat.le_of_ble_eq_true rfl) (Nat.le_of_ble_eq_true rfl) (Nat.le_of_ble_eq_true rfl) (by omega) (by omega) dX1_mixMachine_95 (fun v w1 hp => ?_)
              obtain ⟨rfl, rfl⟩ := hp
              refine g_nrm (cs1 := [fz, wM, [(o, ob 0 [.ref n])], [(n, ob 1 [.ref lm, .ref lb, .ref lr, .int (nLo P), .int (nNow P)])], wm]) (st1 := [.long (mixD (mixD (dmB (mL M) (dmA M d 9) i) (oEn e115 0)) (oEn e115 1))]) rfl rfl ?_
              refine g_eql (dmB (mL M) (dmA M d 9) (i + 1)) (by show _ = mixD (mixD _ (oEn (enG (mL M) (lB (mL M) + 1 + i)) 0)) (oEn (enG (mL M) (lB (mL M) + 1 + i)) 1); rw [heg]) ?_
              refine g_lstore hX (pc := 98) (lv1 := [(4, .long (dmB (mL M) (dmA M d 9) (i + 1))), (7, .int (nI (lB (mL M) + 1 + i))), (6, .ref rl34), (0, .ref o), (3, .int (nI k))]) dX1_mixMachine_98 (by decide) rfl ?_
              refine g_iinc hX (pc := 100) (v := nI ((lB (mL M) + 1 + i) + 1)) (lv1 := [(7, .int (nI ((lB (mL M) + 1 + i) + 1))), (4, .long (dmB (mL M) (dmA M d 9) (i + 1))), (6, .ref rl34), (0, .ref o), (3, .int (nI k))]) dX1_mixMachine_100 1 rfl (nI_1 _) (by decide) rfl ?_
              refine g_goto hX (pc := 103) (tgt := 58) dX1_mixMachine_103 rfl ?_
              refine g_pk [2, 2, 2, 1, 0] rfl ?_
              refine g_cs (cs1 := [[(o, ob 0 [.ref n])], [(n, ob 1 [.ref lm, .ref lb, .ref lr, .int (nLo P), .int (nNow P)])], wm, wM, fz]) rfl ?_
              refine g_widen (kc1 := 0) (ks1 := 0) (by omega) (by omega) ?_
              exact ih2 (i + 1) (by omega) (by omega)
        refine g_pk [3, 0, 0, 0, 0] rfl ?_
        refine g_cs (cs1 := [[(o, ob 0 [.ref n])], [(n, ob 1 [.ref lm, .ref lb, .ref lr, .int (nLo P), .int (nNow P)])], wm, wM, fz]) rfl ?_
        refine g_lv (lv1 := [(7, .int (nI (lB (mL M) + 1 + 0))), (4, .long (dmB (mL M) (dmA M d 9) 0)), (6, .ref rl34), (0, .ref o), (3, .int (nI k))]) [0, 2, 1, 3, 4] rfl ?_
        refine g_widen (kc1 := 0) (ks1 := 0) (by omega) (by omega) ?_
        exact lp47 ((List.length (lE (mL M)) - 0) + 1) 0 (Nat.lt_succ_self _) (Nat.zero_le _)
      · have d1 : i < 9 := by
          have h1 := Int32.not_lt.mp c2
          rw [show (8 : Int32) = nI 8 from rfl] at h1
          have := (nI_leI (by omega) (by omega)).mp h1
          omega
        refine g_lload hX (pc := 13) dX1_mixMachine_13 1 rfl ?_
        refine g_aload_n hX (pc := 15) dX1_mixMachine_15 2 rfl ?_
        refine g_get hX (pc := 16) fcX1 0 rfl 0 (by decide) q176 rfl (v := .ref n) rfl dX1_mixMachine_16 ?_
        refine g_iload_n hX (pc := 19) dX1_mixMachine_19 3 rfl ?_
        refine g_iload hX (pc := 20) dX1_mixMachine_20 0 rfl ?_
        refine g_callV hX (pc := 22) kX2_ofMachine (mt_Net_ofMachine E l n lm lb lr P wm wM fz k i hML (hk) (d1)) q776 fcX2 (sp_mem (i := 1) rfl) [1, 1, 1] rfl rfl rfl (Nat.le_of_ble_eq_true rfl) (Nat.le_of_ble_eq_true rfl) (Nat.le_of_ble_eq_true rfl) (by omega) (by omega) dX1_mixMachine_22 (fun v w1 hp => ?_)
        obtain ⟨rfl, rfl⟩ := hp
        refine g_nrm (cs1 := [[(n, ob 1 [.ref lm, .ref lb, .ref lr, .int (nLo P), .int (nNow P)])], wm, wM, [(o, ob 0 [.ref n])], fz]) (st1 := [.int (oMach (mAt P k) i), .long (dmA M d i)]) rfl rfl ?_
        refine g_eqi (oMach M i) (by rw [mAt_get hM]) ?_
        refine g_callS hX (pc := 25) kX1_mix (mt_Q_mix E l (dmA M d i) (oMach M i)) q768 [] rfl rfl rfl (Nat.le_of_ble_eq_true rfl) (Nat.le_of_ble_eq_true rfl) (Nat.le_of_ble_eq_true rfl) (by omega) (by omega) dX1_mixMachine_25 (fun v w1 hp => ?_)
        obtain ⟨rfl, rfl⟩ := hp
        refine g_nrm (cs1 := [[(n, ob 1 [.ref lm, .ref lb, .ref lr, .int (nLo P), .int (nNow P)])], wm, wM, [(o, ob 0 [.ref n])], fz]) (st1 := [.long (mixD (dmA M d i) (oMach M i))]) rfl rfl ?_
        refine g_eql (dmA M d (i + 1)) (rfl) ?_
        refine g_lstore hX (pc := 28) (lv1 := [(4, .long (dmA M d (i + 1))), (6, .int (nI i)), (0, .ref o), (3, .int (nI k))]) dX1_mixMachine_28 (by decide) rfl ?_
        refine g_iinc hX (pc := 30) (v := nI (i + 1)) (lv1 := [(6, .int (nI (i + 1))), (4, .long (dmA M d (i + 1))), (0, .ref o), (3, .int (nI k))]) dX1_mixMachine_30 1 rfl (nI_1 _) (by decide) rfl ?_
        refine g_goto hX (pc := 33) (tgt := 6) dX1_mixMachine_33 rfl ?_
        refine g_pk [3, 0, 0, 0, 0] rfl ?_
        refine g_cs (cs1 := [[(o, ob 0 [.ref n])], [(n, ob 1 [.ref lm, .ref lb, .ref lr, .int (nLo P), .int (nNow P)])], wm, wM, fz]) rfl ?_
        refine g_widen (kc1 := 0) (ks1 := 0) (by omega) (by omega) ?_
        exact ih1 (i + 1) (by omega) (by omega)
  refine g_lv (lv1 := [(6, .int (nI 0)), (4, .long (dmA M d 0)), (0, .ref o), (3, .int (nI k))]) [0, 1, 2, 4] rfl ?_
  refine g_widen (kc1 := 0) (ks1 := 0) (by omega) (by omega) ?_
  exact lp1 ((9 - 0) + 1) 0 (Nat.lt_succ_self _) (Nat.zero_le _)
