/-! the world: does, settle, stand -/
theorem rAnswer_y {r : PR} {x now : Int32} (h1 : rAns r = (-1)) (h2 : ¬ x = (-1)) : rAnswer r x now = rAns1 r x now := by
  unfold rAnswer rAns1
  rw [if_pos ⟨h1, h2⟩, if_pos ⟨h1, h2⟩]
theorem rAnswer_n {r : PR} {x now : Int32} (h : ¬ (rAns r = (-1) ∧ ¬ x = (-1))) : rAnswer r x now = r := by
  unfold rAnswer
  rw [if_neg h, if_neg h]
theorem rqF_ans {r : PR} {x now : Int32} : rqF (rAns1 r x now) = rqF r := rfl

set_option maxHeartbeats 4000000 in
theorem mt_W_does (E : EE) (l : Launch) (wd : Nat) (sz : Nat) (ma : Nat) (lb : Nat) (nw : Int32) (lo : Int32) (r0 : Nat) (r1 : Nat) (r2 : Nat) (r3 : Nat) (mo : Nat) (m : Nat) (M : PM) (wk : va_W) (fz : va_W) (R : List PR) (wr : va_W) (th : Int32) (lr : Nat) (mw : Nat) (sm : Int64) (hM : IsMM E fz sz m M wk) (hRq : MRL E fz lr R wr) (hI0 : (dInv M (List.length R) (en3 M R))) (hen : (enOK (List.length R) (lE (mL M)))) (hb : (lLast (mL M) ≤ 1000 ∧ mSu M ≤ 1000)) : Mt E l yX4_does cX4_does 4 none 5 0 0 86 [.ref wd, .ref m] [[(wd, ob 3 [.int (nI sz), .ref ma, .ref lb, .int nw, .int lo, .ref r0, .ref r1, .ref r2, .ref r3, .ref mo])], wk, (RA4 E r0 r1 r2 r3 R), [(mo, ob 2 [.int th, .ref lr, .ref mw, .long sm])], wr, fz] (fun (v_ : Option Value) (cs_ : List va_W) => ∃ (w1 : va_W), IsMM E fz sz m (Prod.fst (doAll nw (en3 M R))) w1 ∧ MRL E fz lr (Prod.snd (doAll nw (en3 M R))) wr ∧ v_ = none ∧ cs_ = [[(wd, ob 3 [.int (nI sz), .ref ma, .ref lb, .int nw, .int lo, .ref r0, .ref r1, .ref r2, .ref r3, .ref mo])], w1, (RA4 E r0 r1 r2 r3 (Prod.snd (doAll nw (en3 M R)))), [(mo, ob 2 [.int th, .ref lr, .ref mw, .long sm])], wr, fz]) := by
  obtain ⟨hb1, hb2⟩ := hb
  refine Mt.of (by decide) (Nat.le_of_ble_eq_true rfl) (fun X hX hR hin => ?_)
  refine g_lv1 (lv1 := [(0, .ref wd), (1, .ref m)]) rfl ?_
  refine g_cs (cs1 := [[(wd, ob 3 [.int (nI sz), .ref ma, .ref lb, .int nw, .int lo, .ref r0, .ref r1, .ref r2, .ref r3, .ref mo])], wk, (RA4 E r0 r1 r2 r3 (Prod.snd (en3 M R))), [(mo, ob 2 [.int th, .ref lr, .ref mw, .long sm])], wr, fz]) rfl ?_
  have lp1 : ∀ (F1 : Nat) (x : PM × List PR) (wkL : va_W), mSu M - mDn (Prod.fst x) < F1 → (dInv M (List.length R) x) → (doAll nw x = (doAll nw (en3 M R))) → (mR (Prod.fst x) = mR M ∧ mLz (Prod.fst x) = mLz M) → IsMM E fz sz m (Prod.fst x) wkL → MRL E fz lr (Prod.snd x) wr → G E l X [[(wd, ob 3 [.int (nI sz), .ref ma, .ref lb, .int nw, .int lo, .ref r0, .ref r1, .ref r2, .ref r3, .ref mo])], wkL, (RA4 E r0 r1 r2 r3 (Prod.snd x)), [(mo, ob 2 [.int th, .ref lr, .ref mw, .long sm])], wr, fz] 0 0 0 [(0, .ref wd), (1, .ref m)] [] := by
    intro F1
    induction F1 with
    | zero =>
      intro x wkL hF hI hG hx3 hML hRL
      exact absurd hF (Nat.not_lt_zero _)
    | succ F1 ih1 =>
      intro x wkL hF hI hG hx3 hML hRL
      refine g_aload_n hX (pc := 0) dX4_does_0 1 rfl ?_
      obtain ⟨rk2, rv3, rs4, rn5, rp6, fn7, fk8, wl9, ws10, hn11, hK12, hV13, hS14, rfl⟩ := hML
      obtain ⟨la15, sp16, ges17, wl9, hE18, hges19, hsp20, rfl⟩ := hK12
      refine g_fl (cs1 := [[(wd, ob 3 [.int (nI sz), .ref ma, .ref lb, .int nw, .int lo, .ref r0, .ref r1, .ref r2, .ref r3, .ref mo])], [(m, ob 4 [.int (mR (Prod.fst x)), .ref rk2, .ref rv3, .ref rs4, .int (nI (mDn (Prod.fst x))), .int (nI (mSu (Prod.fst x))), .int (mVt (Prod.fst x)), .ref rn5, .ref rp6, .int (bI (mLz (Prod.fst x)))])], [(rn5, iA (aC E 0) 5 fn7)], [(rp6, iA (aC E 0) 5 fk8)], [(rk2, ob 5 [.int (lT (mL (Prod.fst x))), .int (lV (mL (Prod.fst x))), .int (nI (lB (mL (Prod.fst x)))), .int (lBT (mL (Prod.fst x))), .ref sp16, .ref la15])], wl9, ws10, (RA4 E r0 r1 r2 r3 (Prod.snd x)), [(mo, ob 2 [.int th, .ref lr, .ref mw, .long sm])], wr, fz]) (by simp only [List.flatten_cons, List.flatten_nil, List.cons_append, List.append_assoc, List.nil_append, List.append_nil]) ?_
      have hl_ges17 : List.length ges17 = List.length (lE (mL (Prod.fst x))) := by rw [← hges19, List.length_map]
      refine g_getN hX (pc := 1) fcX5 1 rfl 4 (by decide) q1701 rfl (v := .int (nI (mDn (Prod.fst x)))) rfl dX4_does_1 ?_
      refine g_aload_n hX (pc := 4) dX4_does_4 1 rfl ?_
      refine g_getN hX (pc := 5) fcX5 1 rfl 5 (by decide) q1704 rfl (v := .int (nI (mSu (Prod.fst x)))) rfl dX4_does_5 ?_
      refine g_icmp_ge hX (pc := 8) (tgt := 119) dX4_does_8 rfl (fun c21 => ?_) (fun c21 => ?_)
      · obtain ⟨⟨i1, i2, i3⟩, ⟨i4, i5, i6⟩, i7, i8⟩ := hI
        have d1 : mSu (Prod.fst x) ≤ mDn (Prod.fst x) := (nI_leI (by omega) (by omega)).mp c21
        rw [doGo_e d1] at hG
        refine g_pk [1, 1, 1, 1, 1, 1] rfl ?_
        refine g_cs (cs1 := [[(m, ob 4 [.int (mR (Prod.fst x)), .ref rk2, .ref rv3, .ref rs4, .int (nI (mDn (Prod.fst x))), .int (nI (mSu (Prod.fst x))), .int (mVt (Prod.fst x)), .ref rn5, .ref rp6, .int (bI (mLz (Prod.fst x)))])], [(rn5, iA (aC E 0) 5 fn7)], [(rp6, iA (aC E 0) 5 fk8)], [(rk2, ob 5 [.int (lT (mL (Prod.fst x))), .int (lV (mL (Prod.fst x))), .int (nI (lB (mL (Prod.fst x)))), .int (lBT (mL (Prod.fst x))), .ref sp16, .ref la15])], wl9, ws10, [(wd, ob 3 [.int (nI sz), .ref ma, .ref lb, .int nw, .int lo, .ref r0, .ref r1, .ref r2, .ref r3, .ref mo])], (RA4 E r0 r1 r2 r3 (Prod.snd x)), [(mo, ob 2 [.int th, .ref lr, .ref mw, .long sm])], wr, fz]) rfl ?_
        refine g_fl (cs1 := [((m, ob 4 [.int (mR (Prod.fst x)), .ref rk2, .ref rv3, .ref rs4, .int (nI (mDn (Prod.fst x))), .int (nI (mSu (Prod.fst x))), .int (mVt (Prod.fst x)), .ref rn5, .ref rp6, .int (bI (mLz (Prod.fst x)))]) :: (rn5, iA (aC E 0) 5 fn7) :: (rp6, iA (aC E 0) 5 fk8) :: (((rk2, ob 5 [.int (lT (mL (Prod.fst x))), .int (lV (mL (Prod.fst x))), .int (nI (lB (mL (Prod.fst x)))), .int (lBT (mL (Prod.fst x))), .ref sp16, .ref la15]) :: wl9) ++ ws10)), [(wd, ob 3 [.int (nI sz), .ref ma, .ref lb, .int nw, .int lo, .ref r0, .ref r1, .ref r2, .ref r3, .ref mo])], (RA4 E r0 r1 r2 r3 (Prod.snd x)), [(mo, ob 2 [.int th, .ref lr, .ref mw, .long sm])], wr, fz]) (by simp only [List.flatten_cons, List.flatten_nil, List.cons_append, List.append_assoc, List.nil_append, List.append_nil]) ?_
        have hM22 : IsMM E fz sz m (Prod.fst x) ((m, ob 4 [.int (mR (Prod.fst x)), .ref rk2, .ref rv3, .ref rs4, .int (nI (mDn (Prod.fst x))), .int (nI (mSu (Prod.fst x))), .int (mVt (Prod.fst x)), .ref rn5, .ref rp6, .int (bI (mLz (Prod.fst x)))]) :: (rn5, iA (aC E 0) 5 fn7) :: (rp6, iA (aC E 0) 5 fk8) :: (((rk2, ob 5 [.int (lT (mL (Prod.fst x))), .int (lV (mL (Prod.fst x))), .int (nI (lB (mL (Prod.fst x)))), .int (lBT (mL (Prod.fst x))), .ref sp16, .ref la15]) :: wl9) ++ ws10)) := ⟨_, _, _, _, _, _, _, _, _, hn11, ⟨_, _, _, _, hE18, hges19, hsp20, rfl⟩, hV13, hS14, rfl⟩
        generalize ((m, ob 4 [.int (mR (Prod.fst x)), .ref rk2, .ref rv3, .ref rs4, .int (nI (mDn (Prod.fst x))), .int (nI (mSu (Prod.fst x))), .int (mVt (Prod.fst x)), .ref rn5, .ref rp6, .int (bI (mLz (Prod.fst x)))]) :: (rn5, iA (aC E 0) 5 fn7) :: (rp6, iA (aC E 0) 5 fk8) :: (((rk2, ob 5 [.int (lT (mL (Prod.fst x))), .int (lV (mL (Prod.fst x))), .int (nI (lB (mL (Prod.fst x)))), .int (lBT (mL (Prod.fst x))), .ref sp16, .ref la15]) :: wl9) ++ ws10)) = wk23 at hM22 ⊢
        have ht24 : doAll nw (en3 M R) = x := hG.symm
        refine g_cs (cs1 := [wk23, [(wd, ob 3 [.int (nI sz), .ref ma, .ref lb, .int nw, .int lo, .ref r0, .ref r1, .ref r2, .ref r3, .ref mo])], RA4 E r0 r1 r2 r3 (Prod.snd (doAll nw (en3 M R))), [(mo, ob 2 [.int th, .ref lr, .ref mw, .long sm])], wr, fz]) (by rw [ht24]) ?_
        have h25 : MRL E fz lr (Prod.snd (doAll nw (en3 M R))) wr := by rw [ht24]; exact hRL
        have h26 : MTIn E fz sp16 (lS (mL (Prod.fst (doAll nw (en3 M R))))) := by rw [ht24]; exact hsp20
        have h27 : KpIn E fz rv3 (mV (Prod.fst (doAll nw (en3 M R)))) := by rw [ht24]; exact hV13
        have h28 : IsMM E fz sz m (Prod.fst (doAll nw (en3 M R))) wk23 := by rw [ht24]; exact hM22
        refine g_pk [1, 0, 0, 0, 0, 0] rfl ?_
        refine g_cs (cs1 := [[(wd, ob 3 [.int (nI sz), .ref ma, .ref lb, .int nw, .int lo, .ref r0, .ref r1, .ref r2, .ref r3, .ref mo])], wk23, RA4 E r0 r1 r2 r3 (Prod.snd (doAll nw (en3 M R))), [(mo, ob 2 [.int th, .ref lr, .ref mw, .long sm])], wr, fz]) rfl ?_
        refine g_vret hX (pc := 119) hR ?_ (by omega) (by omega) dX4_does_119
        exact ⟨_, h28, h25, rfl, rfl⟩
      · obtain ⟨⟨i1, i2, i3⟩, ⟨i4, i5, i6⟩, i7, i8⟩ := hI
        have d1 : mDn (Prod.fst x) < mSu (Prod.fst x) := (nI_ltI (by omega) (by omega)).mp (Int32.not_le.mp c21)
        have hSt := doStep_Su (now := nw) (x := x)
        have hI : dInv M (List.length R) x := ⟨⟨i1, i2, i3⟩, ⟨i4, i5, i6⟩, i7, i8⟩
        have hI2 := doStep_inv (now := nw) hI (by omega) hen
        have hG2 : doAll nw (doStep nw x) = (doAll nw (en3 M R)) := (doGo_s d1 hSt.1 hSt.2.1).trans hG
        have hL1 : lLast (mL (Prod.fst x)) = lB (mL (Prod.fst x)) + (lE (mL (Prod.fst x))).length := rfl
        have hB1 : lB (mL (Prod.fst x)) = lB (mL M) := by rw [i1]
        have hB2 : lLast (mL (Prod.fst x)) = lLast (mL M) := by rw [i1]
        obtain ⟨g, hg⟩ := get_ex (l := ges17) (i := mDn (Prod.fst x) + 1 - lB (mL (Prod.fst x)) - 1) (by omega)
        have hz := men_at hE18.2 hg
        have hge := enG_at hges19 hg
        have hgi : g.2 ∈ lE (mL M) := by rw [← i1]; exact en_in hges19 hg
        have hee := hen _ hgi
        refine g_aload_n hX (pc := 11) dX4_does_11 1 rfl ?_
        refine g_dup hX (pc := 12) dX4_does_12 rfl ?_
        refine g_getN hX (pc := 13) fcX5 1 rfl 4 (by decide) q1701 rfl (v := .int (nI (mDn (Prod.fst x)))) rfl dX4_does_13 ?_
        refine g_iconst hX (pc := 16) (v := 1) dX4_does_16 (by decide) ?_
        refine g_iadd hX (pc := 17) dX4_does_17 ?_
        refine g_eqi (nI (mDn (Prod.fst x) + 1)) (nI_1 _) ?_
        refine g_putN hX (pc := 18) fcX5 1 (fs1 := [.int (mR (Prod.fst x)), .ref rk2, .ref rv3, .ref rs4, .int (nI (mDn (Prod.fst x) + 1)), .int (nI (mSu (Prod.fst x))), .int (mVt (Prod.fst x)), .ref rn5, .ref rp6, .int (bI (mLz (Prod.fst x)))]) (cs1 := [[(wd, ob 3 [.int (nI sz), .ref ma, .ref lb, .int nw, .int lo, .ref r0, .ref r1, .ref r2, .ref r3, .ref mo])], [(m, ob 4 [.int (mR (Prod.fst x)), .ref rk2, .ref rv3, .ref rs4, .int (nI (mDn (Prod.fst x) + 1)), .int (nI (mSu (Prod.fst x))), .int (mVt (Prod.fst x)), .ref rn5, .ref rp6, .int (bI (mLz (Prod.fst x)))])], [(rn5, iA (aC E 0) 5 fn7)], [(rp6, iA (aC E 0) 5 fk8)], [(rk2, ob 5 [.int (lT (mL (Prod.fst x))), .int (lV (mL (Prod.fst x))), .int (nI (lB (mL (Prod.fst x)))), .int (lBT (mL (Prod.fst x))), .ref sp16, .ref la15])], wl9, ws10, (RA4 E r0 r1 r2 r3 (Prod.snd x)), [(mo, ob 2 [.int th, .ref lr, .ref mw, .long sm])], wr, fz]) rfl 4 (by decide) q1701 rfl rfl rfl rfl (Nat.le_of_ble_eq_true rfl) rfl rfl dX4_does_18 ?_
        refine g_aload_n hX (pc := 21) dX4_does_21 1 rfl ?_
        refine g_getN hX (pc := 22) fcX5 1 rfl 1 (by decide) q1692 rfl (v := .ref rk2) rfl dX4_does_22 ?_
        refine g_aload_n hX (pc := 25) dX4_does_25 1 rfl ?_
        refine g_getN hX (pc := 26) fcX5 1 rfl 4 (by decide) q1701 rfl (v := .int (nI (mDn (Prod.fst x) + 1))) rfl dX4_does_26 ?_
        refine g_callV hX (pc := 29) kX6_at (mt_Kp_at E l rk2 (lT (mL (Prod.fst x))) (lV (mL (Prod.fst x))) (lB (mL (Prod.fst x))) (lBT (mL (Prod.fst x))) sp16 la15 fz ges17 wl9 (mDn (Prod.fst x) + 1) g hE18 (hg) (by omega) (by omega)) q1964 fcX6 (sp_mem (i := 4) rfl) [4, 4, 8] rfl rfl rfl (Nat.le_of_ble_eq_true rfl) (Nat.le_of_ble_eq_true rfl) (Nat.le_of_ble_eq_true rfl) (by omega) (by omega) dX4_does_29 (fun v w1 hp => ?_)
        obtain ⟨rfl, rfl⟩ := hp
        refine g_nrm (cs1 := [[(rk2, ob 5 [.int (lT (mL (Prod.fst x))), .int (lV (mL (Prod.fst x))), .int (nI (lB (mL (Prod.fst x)))), .int (lBT (mL (Prod.fst x))), .ref sp16, .ref la15])], wl9, fz, [(wd, ob 3 [.int (nI sz), .ref ma, .ref lb, .int nw, .int lo, .ref r0, .ref r1, .ref r2, .ref r3, .ref mo])], [(m, ob 4 [.int (mR (Prod.fst x)), .ref rk2, .ref rv3, .ref rs4, .int (nI (mDn (Prod.fst x) + 1)), .int (nI (mSu (Prod.fst x))), .int (mVt (Prod.fst x)), .ref rn5, .ref rp6, .int (bI (mLz (Prod.fst x)))])], [(rn5, iA (aC E 0) 5 fn7)], [(rp6, iA (aC E 0) 5 fk8)], ws10, (RA4 E r0 r1 r2 r3 (Prod.snd x)), [(mo, ob 2 [.int th, .ref lr, .ref mw, .long sm])], wr]) (st1 := [.ref g.1]) rfl rfl ?_
        refine g_astore_n hX (pc := 32) (lv1 := [(2, .ref g.1), (0, .ref wd), (1, .ref m)]) dX4_does_32 (by decide) rfl ?_
        refine g_aload_n hX (pc := 33) dX4_does_33 0 rfl ?_
        refine g_iconst hX (pc := 34) (v := 1) dX4_does_34 (by decide) ?_
        refine g_iald hX (pc := 35) (sp_in 2 rfl hz) (v := g.2.2) (by unfold vp_in; decide) rfl dX4_does_35 ?_
        refine g_iconst hX (pc := 36) (v := (-1)) dX4_does_36 (by decide) ?_
        refine g_icmp_ne hX (pc := 37) (tgt := 43) dX4_does_37 rfl (fun c29 => ?_) (fun c29 => ?_)
        · obtain ⟨j, hj1, hj2⟩ := hee.resolve_left c29
          obtain ⟨r, hj4⟩ := get_ex (l := Prod.snd x) (i := j) (by omega)
          obtain ⟨ras, a, hRa, hRl, hRj, hRz⟩ := mrl_at hRL hj4
          have hj5 := i7.2 r (List.mem_of_getElem? hj4)
          have hj40 := i7.1
          have hq := rqAt_nI hj4 (by omega)
          have hds0 : doStep nw x = en3 (setS (setDn (Prod.fst x) (mDn (Prod.fst x) + 1)) (Prod.fst (sDoes (mS (Prod.fst x)) g.2.2 (rC r) (rK r) (rY r) (rA r) (rB r)))) (if mR (Prod.fst x) = 3 ∧ g.2.1 = lT (mL (Prod.fst x)) then List.set (Prod.snd x) j (rAnswer r (Prod.snd (sDoes (mS (Prod.fst x)) g.2.2 (rC r) (rK r) (rY r) (rA r) (rB r))) nw) else Prod.snd x) := by
            unfold doStep
            rw [hge]
            refine (if_neg c29).trans ?_
            show (_, (if _ then _ else _)) = _
            rw [show rqAt (Prod.snd x) g.2.2 = r by rw [hj2]; exact hq, show g.2.2.toNatClampNeg = j by rw [hj2]; exact nI_clamp (by omega)]
            rfl
          have hst0 : List.set (Prod.snd x) j r = Prod.snd x := by rw [← (List.getElem?_eq_some_iff.mp hj4).2]; exact List.set_getElem_self _
          refine g_aload_n hX (pc := 43) dX4_does_43 2 rfl ?_
          refine g_getN hX (pc := 44) fcX5 4 rfl 3 (by decide) q1698 rfl (v := .ref rs4) rfl dX4_does_44 ?_
          refine g_aload_n hX (pc := 47) dX4_does_47 0 rfl ?_
          refine g_iconst hX (pc := 48) (v := 1) dX4_does_48 (by decide) ?_
          refine g_iald hX (pc := 49) (sp_in 2 rfl hz) (v := g.2.2) (by unfold vp_in; decide) rfl dX4_does_49 ?_
          refine g_aload_n hX (pc := 50) dX4_does_50 1 rfl ?_
          refine g_get hX (pc := 51) fcX4 3 rfl 9 (by decide) q1757 rfl (v := .ref mo) rfl dX4_does_51 ?_
          refine g_getN hX (pc := 54) fcX3 9 rfl 1 (by decide) q1781 rfl (v := .ref lr) rfl dX4_does_54 ?_
          refine g_aload_n hX (pc := 57) dX4_does_57 0 rfl ?_
          refine g_iconst hX (pc := 58) (v := 1) dX4_does_58 (by decide) ?_
          refine g_iald hX (pc := 59) (sp_in 2 rfl hz) (v := g.2.2) (by unfold vp_in; decide) rfl dX4_does_59 ?_
          refine g_eqi (nI j) (hj2) ?_
          obtain ⟨fs30, hm31⟩ := AL.head hRa
          refine g_callV hX (pc := 60) kJ2_get (mt_AL_get E l lr ras wr j a hRa (hRj)) q1974 fcJ2 (sp_in 10 rfl hm31) [10] rfl rfl rfl (Nat.le_of_ble_eq_true rfl) (Nat.le_of_ble_eq_true rfl) (Nat.le_of_ble_eq_true rfl) (by omega) (by omega) dX4_does_60 (fun v w1 hp => ?_)
          obtain ⟨rfl, rfl⟩ := hp
          refine g_nrm (cs1 := [wr, [(rk2, ob 5 [.int (lT (mL (Prod.fst x))), .int (lV (mL (Prod.fst x))), .int (nI (lB (mL (Prod.fst x)))), .int (lBT (mL (Prod.fst x))), .ref sp16, .ref la15])], wl9, fz, [(wd, ob 3 [.int (nI sz), .ref ma, .ref lb, .int nw, .int lo, .ref r0, .ref r1, .ref r2, .ref r3, .ref mo])], [(m, ob 4 [.int (mR (Prod.fst x)), .ref rk2, .ref rv3, .ref rs4, .int (nI (mDn (Prod.fst x) + 1)), .int (nI (mSu (Prod.fst x))), .int (mVt (Prod.fst x)), .ref rn5, .ref rp6, .int (bI (mLz (Prod.fst x)))])], [(rn5, iA (aC E 0) 5 fn7)], [(rp6, iA (aC E 0) 5 fk8)], ws10, (RA4 E r0 r1 r2 r3 (Prod.snd x)), [(mo, ob 2 [.int th, .ref lr, .ref mw, .long sm])]]) (st1 := [.ref a, .int g.2.2, .ref rs4]) rfl rfl ?_
          refine g_castA hX (pc := 63) (sp_in 3 rfl hRz) q1975 dX4_does_63 ?_
          obtain ⟨sr32, hs33⟩ := hS14
          obtain ⟨fs34, hm35⟩ := IsMR.head hs33
          refine g_callV hX (pc := 66) kX7_does (mt_MS_does E l rs4 sr32 (mS (Prod.fst x)) ws10 g.2.2 a r fz hs33 (hRz) (hj5.1) (hj5.2.1) (hj5.2.2)) q1976 fcX7 (sp_in 8 rfl hm35) [8, 3] rfl rfl rfl (Nat.le_of_ble_eq_true rfl) (Nat.le_of_ble_eq_true rfl) (Nat.le_of_ble_eq_true rfl) (by omega) (by omega) dX4_does_66 (fun v w1 hp => ?_)
          obtain ⟨w136, h37, rfl, rfl⟩ := hp
          refine g_nrm (cs1 := [w136, fz, wr, [(rk2, ob 5 [.int (lT (mL (Prod.fst x))), .int (lV (mL (Prod.fst x))), .int (nI (lB (mL (Prod.fst x)))), .int (lBT (mL (Prod.fst x))), .ref sp16, .ref la15])], wl9, [(wd, ob 3 [.int (nI sz), .ref ma, .ref lb, .int nw, .int lo, .ref r0, .ref r1, .ref r2, .ref r3, .ref mo])], [(m, ob 4 [.int (mR (Prod.fst x)), .ref rk2, .ref rv3, .ref rs4, .int (nI (mDn (Prod.fst x) + 1)), .int (nI (mSu (Prod.fst x))), .int (mVt (Prod.fst x)), .ref rn5, .ref rp6, .int (bI (mLz (Prod.fst x)))])], [(rn5, iA (aC E 0) 5 fn7)], [(rp6, iA (aC E 0) 5 fk8)], (RA4 E r0 r1 r2 r3 (Prod.snd x)), [(mo, ob 2 [.int th, .ref lr, .ref mw, .long sm])]]) (st1 := [.int (Prod.snd (sDoes (mS (Prod.fst x)) g.2.2 (rC r) (rK r) (rY r) (rA r) (rB r)))]) rfl rfl ?_
          refine g_istore_n hX (pc := 69) (lv1 := [(3, .int (Prod.snd (sDoes (mS (Prod.fst x)) g.2.2 (rC r) (rK r) (rY r) (rA r) (rB r)))), (2, .ref g.1), (0, .ref wd), (1, .ref m)]) dX4_does_69 (by decide) rfl ?_
          refine g_aload_n hX (pc := 70) dX4_does_70 3 rfl ?_
          refine g_getN hX (pc := 71) fcX5 6 rfl 0 (by decide) q1689 rfl (v := .int (mR (Prod.fst x))) rfl dX4_does_71 ?_
          refine g_iconst hX (pc := 74) (v := 3) dX4_does_74 (by decide) ?_
          refine g_icmp_ne hX (pc := 75) (tgt := 116) dX4_does_75 rfl (fun c38 => ?_) (fun c38 => ?_)
          · rw [if_neg (fun z => c38 z.1)] at hds0
            have hds := hds0
            refine g_pk [6, 6, 6, 3, 3, 0] rfl ?_
            refine g_cs (cs1 := [[(m, ob 4 [.int (mR (Prod.fst x)), .ref rk2, .ref rv3, .ref rs4, .int (nI (mDn (Prod.fst x) + 1)), .int (nI (mSu (Prod.fst x))), .int (mVt (Prod.fst x)), .ref rn5, .ref rp6, .int (bI (mLz (Prod.fst x)))])], [(rn5, iA (aC E 0) 5 fn7)], [(rp6, iA (aC E 0) 5 fk8)], [(rk2, ob 5 [.int (lT (mL (Prod.fst x))), .int (lV (mL (Prod.fst x))), .int (nI (lB (mL (Prod.fst x)))), .int (lBT (mL (Prod.fst x))), .ref sp16, .ref la15])], wl9, w136, fz, wr, [(wd, ob 3 [.int (nI sz), .ref ma, .ref lb, .int nw, .int lo, .ref r0, .ref r1, .ref r2, .ref r3, .ref mo])], (RA4 E r0 r1 r2 r3 (Prod.snd x)), [(mo, ob 2 [.int th, .ref lr, .ref mw, .long sm])]]) rfl ?_
            refine g_fl (cs1 := [((m, ob 4 [.int (mR (Prod.fst x)), .ref rk2, .ref rv3, .ref rs4, .int (nI (mDn (Prod.fst x) + 1)), .int (nI (mSu (Prod.fst x))), .int (mVt (Prod.fst x)), .ref rn5, .ref rp6, .int (bI (mLz (Prod.fst x)))]) :: (rn5, iA (aC E 0) 5 fn7) :: (rp6, iA (aC E 0) 5 fk8) :: (((rk2, ob 5 [.int (lT (mL (Prod.fst x))), .int (lV (mL (Prod.fst x))), .int (nI (lB (mL (Prod.fst x)))), .int (lBT (mL (Prod.fst x))), .ref sp16, .ref la15]) :: wl9) ++ w136)), fz, wr, [(wd, ob 3 [.int (nI sz), .ref ma, .ref lb, .int nw, .int lo, .ref r0, .ref r1, .ref r2, .ref r3, .ref mo])], (RA4 E r0 r1 r2 r3 (Prod.snd x)), [(mo, ob 2 [.int th, .ref lr, .ref mw, .long sm])]]) (by simp only [List.flatten_cons, List.flatten_nil, List.cons_append, List.append_assoc, List.nil_append, List.append_nil]) ?_
            have hM39 : IsMM E fz sz m (setS (setDn (Prod.fst x) (mDn (Prod.fst x) + 1)) (Prod.fst (sDoes (mS (Prod.fst x)) g.2.2 (rC r) (rK r) (rY r) (rA r) (rB r)))) ((m, ob 4 [.int (mR (Prod.fst x)), .ref rk2, .ref rv3, .ref rs4, .int (nI (mDn (Prod.fst x) + 1)), .int (nI (mSu (Prod.fst x))), .int (mVt (Prod.fst x)), .ref rn5, .ref rp6, .int (bI (mLz (Prod.fst x)))]) :: (rn5, iA (aC E 0) 5 fn7) :: (rp6, iA (aC E 0) 5 fk8) :: (((rk2, ob 5 [.int (lT (mL (Prod.fst x))), .int (lV (mL (Prod.fst x))), .int (nI (lB (mL (Prod.fst x)))), .int (lBT (mL (Prod.fst x))), .ref sp16, .ref la15]) :: wl9) ++ w136)) := ⟨_, _, _, _, _, _, _, _, _, hn11, ⟨_, _, _, _, hE18, hges19, hsp20, rfl⟩, hV13, ⟨_, h37⟩, rfl⟩
            generalize ((m, ob 4 [.int (mR (Prod.fst x)), .ref rk2, .ref rv3, .ref rs4, .int (nI (mDn (Prod.fst x) + 1)), .int (nI (mSu (Prod.fst x))), .int (mVt (Prod.fst x)), .ref rn5, .ref rp6, .int (bI (mLz (Prod.fst x)))]) :: (rn5, iA (aC E 0) 5 fn7) :: (rp6, iA (aC E 0) 5 fk8) :: (((rk2, ob 5 [.int (lT (mL (Prod.fst x))), .int (lV (mL (Prod.fst x))), .int (nI (lB (mL (Prod.fst x)))), .int (lBT (mL (Prod.fst x))), .ref sp16, .ref la15]) :: wl9) ++ w136)) = wk40 at hM39 ⊢
            have h41 : IsMM E fz sz m (Prod.fst (doStep nw x)) wk40 := by rw [hds]; exact hM39
            have h42 : MRL E fz lr (Prod.snd (doStep nw x)) wr := by rw [hds]; exact hRL
            refine g_cs (cs1 := [wk40, fz, wr, [(wd, ob 3 [.int (nI sz), .ref ma, .ref lb, .int nw, .int lo, .ref r0, .ref r1, .ref r2, .ref r3, .ref mo])], (RA4 E r0 r1 r2 r3 (Prod.snd (doStep nw x))), [(mo, ob 2 [.int th, .ref lr, .ref mw, .long sm])]]) (by rw [hds]) ?_
            refine g_goto hX (pc := 116) (tgt := 0) dX4_does_116 rfl ?_
            refine g_pk [3, 0, 2, 2, 1, 0] rfl ?_
            refine g_cs (cs1 := [[(wd, ob 3 [.int (nI sz), .ref ma, .ref lb, .int nw, .int lo, .ref r0, .ref r1, .ref r2, .ref r3, .ref mo])], wk40, (RA4 E r0 r1 r2 r3 (Prod.snd (doStep nw x))), [(mo, ob 2 [.int th, .ref lr, .ref mw, .long sm])], wr, fz]) rfl ?_
            refine g_lv (lv1 := [(0, .ref wd), (1, .ref m)]) [2, 3] rfl ?_
            refine g_widen (kc1 := 0) (ks1 := 0) (by omega) (by omega) ?_
            exact ih1 (doStep nw x) wk40 (by omega) (hI2) (hG2) (⟨hSt.2.2.trans hx3.1, doStep_Lz.trans hx3.2⟩) h41 h42
          · refine g_aload_n hX (pc := 78) dX4_does_78 1 rfl ?_
            refine g_iconst hX (pc := 79) (v := 0) dX4_does_79 (by decide) ?_
            refine g_iald hX (pc := 80) (sp_in 1 rfl hz) (v := g.2.1) (by unfold vp_in; decide) rfl dX4_does_80 ?_
            refine g_aload_n hX (pc := 81) dX4_does_81 3 rfl ?_
            refine g_getN hX (pc := 82) fcX5 6 rfl 1 (by decide) q1692 rfl (v := .ref rk2) rfl dX4_does_82 ?_
            refine g_getN hX (pc := 85) fcX6 3 rfl 0 (by decide) q1656 rfl (v := .int (lT (mL (Prod.fst x)))) rfl dX4_does_85 ?_
            refine g_icmp_ne hX (pc := 88) (tgt := 116) dX4_does_88 rfl (fun c43 => ?_) (fun c43 => ?_)
            · rw [if_neg (fun z => c43 z.2)] at hds0
              have hds := hds0
              refine g_pk [6, 6, 6, 3, 3, 0] rfl ?_
              refine g_cs (cs1 := [[(m, ob 4 [.int (mR (Prod.fst x)), .ref rk2, .ref rv3, .ref rs4, .int (nI (mDn (Prod.fst x) + 1)), .int (nI (mSu (Prod.fst x))), .int (mVt (Prod.fst x)), .ref rn5, .ref rp6, .int (bI (mLz (Prod.fst x)))])], [(rn5, iA (aC E 0) 5 fn7)], [(rp6, iA (aC E 0) 5 fk8)], [(rk2, ob 5 [.int (lT (mL (Prod.fst x))), .int (lV (mL (Prod.fst x))), .int (nI (lB (mL (Prod.fst x)))), .int (lBT (mL (Prod.fst x))), .ref sp16, .ref la15])], wl9, w136, fz, wr, [(wd, ob 3 [.int (nI sz), .ref ma, .ref lb, .int nw, .int lo, .ref r0, .ref r1, .ref r2, .ref r3, .ref mo])], (RA4 E r0 r1 r2 r3 (Prod.snd x)), [(mo, ob 2 [.int th, .ref lr, .ref mw, .long sm])]]) rfl ?_
              refine g_fl (cs1 := [((m, ob 4 [.int (mR (Prod.fst x)), .ref rk2, .ref rv3, .ref rs4, .int (nI (mDn (Prod.fst x) + 1)), .int (nI (mSu (Prod.fst x))), .int (mVt (Prod.fst x)), .ref rn5, .ref rp6, .int (bI (mLz (Prod.fst x)))]) :: (rn5, iA (aC E 0) 5 fn7) :: (rp6, iA (aC E 0) 5 fk8) :: (((rk2, ob 5 [.int (lT (mL (Prod.fst x))), .int (lV (mL (Prod.fst x))), .int (nI (lB (mL (Prod.fst x)))), .int (lBT (mL (Prod.fst x))), .ref sp16, .ref la15]) :: wl9) ++ w136)), fz, wr, [(wd, ob 3 [.int (nI sz), .ref ma, .ref lb, .int nw, .int lo, .ref r0, .ref r1, .ref r2, .ref r3, .ref mo])], (RA4 E r0 r1 r2 r3 (Prod.snd x)), [(mo, ob 2 [.int th, .ref lr, .ref mw, .long sm])]]) (by simp only [List.flatten_cons, List.flatten_nil, List.cons_append, List.append_assoc, List.nil_append, List.append_nil]) ?_
              have hM44 : IsMM E fz sz m (setS (setDn (Prod.fst x) (mDn (Prod.fst x) + 1)) (Prod.fst (sDoes (mS (Prod.fst x)) g.2.2 (rC r) (rK r) (rY r) (rA r) (rB r)))) ((m, ob 4 [.int (mR (Prod.fst x)), .ref rk2, .ref rv3, .ref rs4, .int (nI (mDn (Prod.fst x) + 1)), .int (nI (mSu (Prod.fst x))), .int (mVt (Prod.fst x)), .ref rn5, .ref rp6, .int (bI (mLz (Prod.fst x)))]) :: (rn5, iA (aC E 0) 5 fn7) :: (rp6, iA (aC E 0) 5 fk8) :: (((rk2, ob 5 [.int (lT (mL (Prod.fst x))), .int (lV (mL (Prod.fst x))), .int (nI (lB (mL (Prod.fst x)))), .int (lBT (mL (Prod.fst x))), .ref sp16, .ref la15]) :: wl9) ++ w136)) := ⟨_, _, _, _, _, _, _, _, _, hn11, ⟨_, _, _, _, hE18, hges19, hsp20, rfl⟩, hV13, ⟨_, h37⟩, rfl⟩
              generalize ((m, ob 4 [.int (mR (Prod.fst x)), .ref rk2, .ref rv3, .ref rs4, .int (nI (mDn (Prod.fst x) + 1)), .int (nI (mSu (Prod.fst x))), .int (mVt (Prod.fst x)), .ref rn5, .ref rp6, .int (bI (mLz (Prod.fst x)))]) :: (rn5, iA (aC E 0) 5 fn7) :: (rp6, iA (aC E 0) 5 fk8) :: (((rk2, ob 5 [.int (lT (mL (Prod.fst x))), .int (lV (mL (Prod.fst x))), .int (nI (lB (mL (Prod.fst x)))), .int (lBT (mL (Prod.fst x))), .ref sp16, .ref la15]) :: wl9) ++ w136)) = wk45 at hM44 ⊢
              have h46 : IsMM E fz sz m (Prod.fst (doStep nw x)) wk45 := by rw [hds]; exact hM44
              have h47 : MRL E fz lr (Prod.snd (doStep nw x)) wr := by rw [hds]; exact hRL
              refine g_cs (cs1 := [wk45, fz, wr, [(wd, ob 3 [.int (nI sz), .ref ma, .ref lb, .int nw, .int lo, .ref r0, .ref r1, .ref r2, .ref r3, .ref mo])], (RA4 E r0 r1 r2 r3 (Prod.snd (doStep nw x))), [(mo, ob 2 [.int th, .ref lr, .ref mw, .long sm])]]) (by rw [hds]) ?_
              refine g_goto hX (pc := 116) (tgt := 0) dX4_does_116 rfl ?_
              refine g_pk [3, 0, 2, 2, 1, 0] rfl ?_
              refine g_cs (cs1 := [[(wd, ob 3 [.int (nI sz), .ref ma, .ref lb, .int nw, .int lo, .ref r0, .ref r1, .ref r2, .ref r3, .ref mo])], wk45, (RA4 E r0 r1 r2 r3 (Prod.snd (doStep nw x))), [(mo, ob 2 [.int th, .ref lr, .ref mw, .long sm])], wr, fz]) rfl ?_
              refine g_lv (lv1 := [(0, .ref wd), (1, .ref m)]) [2, 3] rfl ?_
              refine g_widen (kc1 := 0) (ks1 := 0) (by omega) (by omega) ?_
              exact ih1 (doStep nw x) wk45 (by omega) (hI2) (hG2) (⟨hSt.2.2.trans hx3.1, doStep_Lz.trans hx3.2⟩) h46 h47
            · refine g_iload_n hX (pc := 91) dX4_does_91 0 rfl ?_
              refine g_iconst hX (pc := 92) (v := (-1)) dX4_does_92 (by decide) ?_
              refine g_icmp_eq hX (pc := 93) (tgt := 116) dX4_does_93 rfl (fun c48 => ?_) (fun c48 => ?_)
              · rw [if_pos ⟨c38, c43⟩, rAnswer_n (fun z => z.2 c48), hst0] at hds0
                have hds := hds0
                refine g_pk [6, 6, 6, 3, 3, 0] rfl ?_
                refine g_cs (cs1 := [[(m, ob 4 [.int (mR (Prod.fst x)), .ref rk2, .ref rv3, .ref rs4, .int (nI (mDn (Prod.fst x) + 1)), .int (nI (mSu (Prod.fst x))), .int (mVt (Prod.fst x)), .ref rn5, .ref rp6, .int (bI (mLz (Prod.fst x)))])], [(rn5, iA (aC E 0) 5 fn7)], [(rp6, iA (aC E 0) 5 fk8)], [(rk2, ob 5 [.int (lT (mL (Prod.fst x))), .int (lV (mL (Prod.fst x))), .int (nI (lB (mL (Prod.fst x)))), .int (lBT (mL (Prod.fst x))), .ref sp16, .ref la15])], wl9, w136, fz, wr, [(wd, ob 3 [.int (nI sz), .ref ma, .ref lb, .int nw, .int lo, .ref r0, .ref r1, .ref r2, .ref r3, .ref mo])], (RA4 E r0 r1 r2 r3 (Prod.snd x)), [(mo, ob 2 [.int th, .ref lr, .ref mw, .long sm])]]) rfl ?_
                refine g_fl (cs1 := [((m, ob 4 [.int (mR (Prod.fst x)), .ref rk2, .ref rv3, .ref rs4, .int (nI (mDn (Prod.fst x) + 1)), .int (nI (mSu (Prod.fst x))), .int (mVt (Prod.fst x)), .ref rn5, .ref rp6, .int (bI (mLz (Prod.fst x)))]) :: (rn5, iA (aC E 0) 5 fn7) :: (rp6, iA (aC E 0) 5 fk8) :: (((rk2, ob 5 [.int (lT (mL (Prod.fst x))), .int (lV (mL (Prod.fst x))), .int (nI (lB (mL (Prod.fst x)))), .int (lBT (mL (Prod.fst x))), .ref sp16, .ref la15]) :: wl9) ++ w136)), fz, wr, [(wd, ob 3 [.int (nI sz), .ref ma, .ref lb, .int nw, .int lo, .ref r0, .ref r1, .ref r2, .ref r3, .ref mo])], (RA4 E r0 r1 r2 r3 (Prod.snd x)), [(mo, ob 2 [.int th, .ref lr, .ref mw, .long sm])]]) (by simp only [List.flatten_cons, List.flatten_nil, List.cons_append, List.append_assoc, List.nil_append, List.append_nil]) ?_
                have hM49 : IsMM E fz sz m (setS (setDn (Prod.fst x) (mDn (Prod.fst x) + 1)) (Prod.fst (sDoes (mS (Prod.fst x)) g.2.2 (rC r) (rK r) (rY r) (rA r) (rB r)))) ((m, ob 4 [.int (mR (Prod.fst x)), .ref rk2, .ref rv3, .ref rs4, .int (nI (mDn (Prod.fst x) + 1)), .int (nI (mSu (Prod.fst x))), .int (mVt (Prod.fst x)), .ref rn5, .ref rp6, .int (bI (mLz (Prod.fst x)))]) :: (rn5, iA (aC E 0) 5 fn7) :: (rp6, iA (aC E 0) 5 fk8) :: (((rk2, ob 5 [.int (lT (mL (Prod.fst x))), .int (lV (mL (Prod.fst x))), .int (nI (lB (mL (Prod.fst x)))), .int (lBT (mL (Prod.fst x))), .ref sp16, .ref la15]) :: wl9) ++ w136)) := ⟨_, _, _, _, _, _, _, _, _, hn11, ⟨_, _, _, _, hE18, hges19, hsp20, rfl⟩, hV13, ⟨_, h37⟩, rfl⟩
                generalize ((m, ob 4 [.int (mR (Prod.fst x)), .ref rk2, .ref rv3, .ref rs4, .int (nI (mDn (Prod.fst x) + 1)), .int (nI (mSu (Prod.fst x))), .int (mVt (Prod.fst x)), .ref rn5, .ref rp6, .int (bI (mLz (Prod.fst x)))]) :: (rn5, iA (aC E 0) 5 fn7) :: (rp6, iA (aC E 0) 5 fk8) :: (((rk2, ob 5 [.int (lT (mL (Prod.fst x))), .int (lV (mL (Prod.fst x))), .int (nI (lB (mL (Prod.fst x)))), .int (lBT (mL (Prod.fst x))), .ref sp16, .ref la15]) :: wl9) ++ w136)) = wk50 at hM49 ⊢
                have h51 : IsMM E fz sz m (Prod.fst (doStep nw x)) wk50 := by rw [hds]; exact hM49
                have h52 : MRL E fz lr (Prod.snd (doStep nw x)) wr := by rw [hds]; exact hRL
                refine g_cs (cs1 := [wk50, fz, wr, [(wd, ob 3 [.int (nI sz), .ref ma, .ref lb, .int nw, .int lo, .ref r0, .ref r1, .ref r2, .ref r3, .ref mo])], (RA4 E r0 r1 r2 r3 (Prod.snd (doStep nw x))), [(mo, ob 2 [.int th, .ref lr, .ref mw, .long sm])]]) (by rw [hds]) ?_
                refine g_goto hX (pc := 116) (tgt := 0) dX4_does_116 rfl ?_
                refine g_pk [3, 0, 2, 2, 1, 0] rfl ?_
                refine g_cs (cs1 := [[(wd, ob 3 [.int (nI sz), .ref ma, .ref lb, .int nw, .int lo, .ref r0, .ref r1, .ref r2, .ref r3, .ref mo])], wk50, (RA4 E r0 r1 r2 r3 (Prod.snd (doStep nw x))), [(mo, ob 2 [.int th, .ref lr, .ref mw, .long sm])], wr, fz]) rfl ?_
                refine g_lv (lv1 := [(0, .ref wd), (1, .ref m)]) [2, 3] rfl ?_
                refine g_widen (kc1 := 0) (ks1 := 0) (by omega) (by omega) ?_
                exact ih1 (doStep nw x) wk50 (by omega) (hI2) (hG2) (⟨hSt.2.2.trans hx3.1, doStep_Lz.trans hx3.2⟩) h51 h52
              · refine g_fl (cs1 := [w136, fz, wr, [(rk2, ob 5 [.int (lT (mL (Prod.fst x))), .int (lV (mL (Prod.fst x))), .int (nI (lB (mL (Prod.fst x)))), .int (lBT (mL (Prod.fst x))), .ref sp16, .ref la15])], wl9, [(wd, ob 3 [.int (nI sz), .ref ma, .ref lb, .int nw, .int lo, .ref r0, .ref r1, .ref r2, .ref r3, .ref mo])], [(m, ob 4 [.int (mR (Prod.fst x)), .ref rk2, .ref rv3, .ref rs4, .int (nI (mDn (Prod.fst x) + 1)), .int (nI (mSu (Prod.fst x))), .int (mVt (Prod.fst x)), .ref rn5, .ref rp6, .int (bI (mLz (Prod.fst x)))])], [(rn5, iA (aC E 0) 5 fn7)], [(rp6, iA (aC E 0) 5 fk8)], [(r0, iA (aC E 0) 40 (fRes (Prod.snd x)))], [(r1, iA (aC E 0) 40 (fSen (Prod.snd x)))], [(r2, iA (aC E 0) 40 (fAns (Prod.snd x)))], [(r3, iA (aC E 0) 40 (fTim (Prod.snd x)))], [(mo, ob 2 [.int th, .ref lr, .ref mw, .long sm])]]) rfl ?_
                refine g_aload_n hX (pc := 96) dX4_does_96 2 rfl ?_
                refine g_get hX (pc := 97) fcX4 5 rfl 7 (by decide) q1753 rfl (v := .ref r2) rfl dX4_does_97 ?_
                refine g_aload_n hX (pc := 100) dX4_does_100 1 rfl ?_
                refine g_iconst hX (pc := 101) (v := 1) dX4_does_101 (by decide) ?_
                refine g_iald hX (pc := 102) (sp_in 1 rfl hz) (v := g.2.2) (by unfold vp_in; decide) rfl dX4_does_102 ?_
                refine g_eqi (nI j) (hj2) ?_
                refine g_iald hX (pc := 103) (sp_mem (i := 11) rfl) (v := (rAns r)) (vp_in_nI (by omega) (by omega)) (by rw [nI_clamp (by omega)]; exact fX_at (h := fun r => rAns r) hj4) dX4_does_103 ?_
                refine g_iconst hX (pc := 104) (v := (-1)) dX4_does_104 (by decide) ?_
                refine g_icmp_ne hX (pc := 105) (tgt := 116) dX4_does_105 rfl (fun c53 => ?_) (fun c53 => ?_)
                · refine g_pk [9, 9, 9, 9] rfl ?_
                  refine g_fl (cs1 := [[(r0, iA (aC E 0) 40 (fRes (Prod.snd x))), (r1, iA (aC E 0) 40 (fSen (Prod.snd x))), (r2, iA (aC E 0) 40 (fAns (Prod.snd x))), (r3, iA (aC E 0) 40 (fTim (Prod.snd x)))], w136, fz, wr, [(rk2, ob 5 [.int (lT (mL (Prod.fst x))), .int (lV (mL (Prod.fst x))), .int (nI (lB (mL (Prod.fst x)))), .int (lBT (mL (Prod.fst x))), .ref sp16, .ref la15])], wl9, [(wd, ob 3 [.int (nI sz), .ref ma, .ref lb, .int nw, .int lo, .ref r0, .ref r1, .ref r2, .ref r3, .ref mo])], [(m, ob 4 [.int (mR (Prod.fst x)), .ref rk2, .ref rv3, .ref rs4, .int (nI (mDn (Prod.fst x) + 1)), .int (nI (mSu (Prod.fst x))), .int (mVt (Prod.fst x)), .ref rn5, .ref rp6, .int (bI (mLz (Prod.fst x)))])], [(rn5, iA (aC E 0) 5 fn7)], [(rp6, iA (aC E 0) 5 fk8)], [(mo, ob 2 [.int th, .ref lr, .ref mw, .long sm])]]) rfl ?_
                  refine g_cs (cs1 := [(RA4 E r0 r1 r2 r3 (Prod.snd x)), w136, fz, wr, [(rk2, ob 5 [.int (lT (mL (Prod.fst x))), .int (lV (mL (Prod.fst x))), .int (nI (lB (mL (Prod.fst x)))), .int (lBT (mL (Prod.fst x))), .ref sp16, .ref la15])], wl9, [(wd, ob 3 [.int (nI sz), .ref ma, .ref lb, .int nw, .int lo, .ref r0, .ref r1, .ref r2, .ref r3, .ref mo])], [(m, ob 4 [.int (mR (Prod.fst x)), .ref rk2, .ref rv3, .ref rs4, .int (nI (mDn (Prod.fst x) + 1)), .int (nI (mSu (Prod.fst x))), .int (mVt (Prod.fst x)), .ref rn5, .ref rp6, .int (bI (mLz (Prod.fst x)))])], [(rn5, iA (aC E 0) 5 fn7)], [(rp6, iA (aC E 0) 5 fk8)], [(mo, ob 2 [.int th, .ref lr, .ref mw, .long sm])]]) (by rw [RA4]) ?_
                  rw [if_pos ⟨c38, c43⟩, rAnswer_n (fun z => c53 z.1), hst0] at hds0
                  have hds := hds0
                  refine g_pk [7, 7, 7, 4, 4, 1] rfl ?_
                  refine g_cs (cs1 := [[(m, ob 4 [.int (mR (Prod.fst x)), .ref rk2, .ref rv3, .ref rs4, .int (nI (mDn (Prod.fst x) + 1)), .int (nI (mSu (Prod.fst x))), .int (mVt (Prod.fst x)), .ref rn5, .ref rp6, .int (bI (mLz (Prod.fst x)))])], [(rn5, iA (aC E 0) 5 fn7)], [(rp6, iA (aC E 0) 5 fk8)], [(rk2, ob 5 [.int (lT (mL (Prod.fst x))), .int (lV (mL (Prod.fst x))), .int (nI (lB (mL (Prod.fst x)))), .int (lBT (mL (Prod.fst x))), .ref sp16, .ref la15])], wl9, w136, (RA4 E r0 r1 r2 r3 (Prod.snd x)), fz, wr, [(wd, ob 3 [.int (nI sz), .ref ma, .ref lb, .int nw, .int lo, .ref r0, .ref r1, .ref r2, .ref r3, .ref mo])], [(mo, ob 2 [.int th, .ref lr, .ref mw, .long sm])]]) rfl ?_
                  refine g_fl (cs1 := [((m, ob 4 [.int (mR (Prod.fst x)), .ref rk2, .ref rv3, .ref rs4, .int (nI (mDn (Prod.fst x) + 1)), .int (nI (mSu (Prod.fst x))), .int (mVt (Prod.fst x)), .ref rn5, .ref rp6, .int (bI (mLz (Prod.fst x)))]) :: (rn5, iA (aC E 0) 5 fn7) :: (rp6, iA (aC E 0) 5 fk8) :: (((rk2, ob 5 [.int (lT (mL (Prod.fst x))), .int (lV (mL (Prod.fst x))), .int (nI (lB (mL (Prod.fst x)))), .int (lBT (mL (Prod.fst x))), .ref sp16, .ref la15]) :: wl9) ++ w136)), (RA4 E r0 r1 r2 r3 (Prod.snd x)), fz, wr, [(wd, ob 3 [.int (nI sz), .ref ma, .ref lb, .int nw, .int lo, .ref r0, .ref r1, .ref r2, .ref r3, .ref mo])], [(mo, ob 2 [.int th, .ref lr, .ref mw, .long sm])]]) (by simp only [List.flatten_cons, List.flatten_nil, List.cons_append, List.append_assoc, List.nil_append, List.append_nil]) ?_
                  have hM54 : IsMM E fz sz m (setS (setDn (Prod.fst x) (mDn (Prod.fst x) + 1)) (Prod.fst (sDoes (mS (Prod.fst x)) g.2.2 (rC r) (rK r) (rY r) (rA r) (rB r)))) ((m, ob 4 [.int (mR (Prod.fst x)), .ref rk2, .ref rv3, .ref rs4, .int (nI (mDn (Prod.fst x) + 1)), .int (nI (mSu (Prod.fst x))), .int (mVt (Prod.fst x)), .ref rn5, .ref rp6, .int (bI (mLz (Prod.fst x)))]) :: (rn5, iA (aC E 0) 5 fn7) :: (rp6, iA (aC E 0) 5 fk8) :: (((rk2, ob 5 [.int (lT (mL (Prod.fst x))), .int (lV (mL (Prod.fst x))), .int (nI (lB (mL (Prod.fst x)))), .int (lBT (mL (Prod.fst x))), .ref sp16, .ref la15]) :: wl9) ++ w136)) := ⟨_, _, _, _, _, _, _, _, _, hn11, ⟨_, _, _, _, hE18, hges19, hsp20, rfl⟩, hV13, ⟨_, h37⟩, rfl⟩
                  generalize ((m, ob 4 [.int (mR (Prod.fst x)), .ref rk2, .ref rv3, .ref rs4, .int (nI (mDn (Prod.fst x) + 1)), .int (nI (mSu (Prod.fst x))), .int (mVt (Prod.fst x)), .ref rn5, .ref rp6, .int (bI (mLz (Prod.fst x)))]) :: (rn5, iA (aC E 0) 5 fn7) :: (rp6, iA (aC E 0) 5 fk8) :: (((rk2, ob 5 [.int (lT (mL (Prod.fst x))), .int (lV (mL (Prod.fst x))), .int (nI (lB (mL (Prod.fst x)))), .int (lBT (mL (Prod.fst x))), .ref sp16, .ref la15]) :: wl9) ++ w136)) = wk55 at hM54 ⊢
                  have h56 : IsMM E fz sz m (Prod.fst (doStep nw x)) wk55 := by rw [hds]; exact hM54
                  have h57 : MRL E fz lr (Prod.snd (doStep nw x)) wr := by rw [hds]; exact hRL
                  refine g_cs (cs1 := [wk55, (RA4 E r0 r1 r2 r3 (Prod.snd (doStep nw x))), fz, wr, [(wd, ob 3 [.int (nI sz), .ref ma, .ref lb, .int nw, .int lo, .ref r0, .ref r1, .ref r2, .ref r3, .ref mo])], [(mo, ob 2 [.int th, .ref lr, .ref mw, .long sm])]]) (by rw [hds]) ?_
                  refine g_goto hX (pc := 116) (tgt := 0) dX4_does_116 rfl ?_
                  refine g_pk [4, 0, 0, 2, 1, 0] rfl ?_
                  refine g_cs (cs1 := [[(wd, ob 3 [.int (nI sz), .ref ma, .ref lb, .int nw, .int lo, .ref r0, .ref r1, .ref r2, .ref r3, .ref mo])], wk55, (RA4 E r0 r1 r2 r3 (Prod.snd (doStep nw x))), [(mo, ob 2 [.int th, .ref lr, .ref mw, .long sm])], wr, fz]) rfl ?_
                  refine g_lv (lv1 := [(0, .ref wd), (1, .ref m)]) [2, 3] rfl ?_
                  refine g_widen (kc1 := 0) (ks1 := 0) (by omega) (by omega) ?_
                  exact ih1 (doStep nw x) wk55 (by omega) (hI2) (hG2) (⟨hSt.2.2.trans hx3.1, doStep_Lz.trans hx3.2⟩) h56 h57
                · refine g_pk [9, 9, 9, 9] rfl ?_
                  refine g_fl (cs1 := [[(r0, iA (aC E 0) 40 (fRes (Prod.snd x))), (r1, iA (aC E 0) 40 (fSen (Prod.snd x))), (r2, iA (aC E 0) 40 (fAns (Prod.snd x))), (r3, iA (aC E 0) 40 (fTim (Prod.snd x)))], w136, fz, wr, [(rk2, ob 5 [.int (lT (mL (Prod.fst x))), .int (lV (mL (Prod.fst x))), .int (nI (lB (mL (Prod.fst x)))), .int (lBT (mL (Prod.fst x))), .ref sp16, .ref la15])], wl9, [(wd, ob 3 [.int (nI sz), .ref ma, .ref lb, .int nw, .int lo, .ref r0, .ref r1, .ref r2, .ref r3, .ref mo])], [(m, ob 4 [.int (mR (Prod.fst x)), .ref rk2, .ref rv3, .ref rs4, .int (nI (mDn (Prod.fst x) + 1)), .int (nI (mSu (Prod.fst x))), .int (mVt (Prod.fst x)), .ref rn5, .ref rp6, .int (bI (mLz (Prod.fst x)))])], [(rn5, iA (aC E 0) 5 fn7)], [(rp6, iA (aC E 0) 5 fk8)], [(mo, ob 2 [.int th, .ref lr, .ref mw, .long sm])]]) rfl ?_
                  refine g_cs (cs1 := [(RA4 E r0 r1 r2 r3 (Prod.snd x)), w136, fz, wr, [(rk2, ob 5 [.int (lT (mL (Prod.fst x))), .int (lV (mL (Prod.fst x))), .int (nI (lB (mL (Prod.fst x)))), .int (lBT (mL (Prod.fst x))), .ref sp16, .ref la15])], wl9, [(wd, ob 3 [.int (nI sz), .ref ma, .ref lb, .int nw, .int lo, .ref r0, .ref r1, .ref r2, .ref r3, .ref mo])], [(m, ob 4 [.int (mR (Prod.fst x)), .ref rk2, .ref rv3, .ref rs4, .int (nI (mDn (Prod.fst x) + 1)), .int (nI (mSu (Prod.fst x))), .int (mVt (Prod.fst x)), .ref rn5, .ref rp6, .int (bI (mLz (Prod.fst x)))])], [(rn5, iA (aC E 0) 5 fn7)], [(rp6, iA (aC E 0) 5 fk8)], [(mo, ob 2 [.int th, .ref lr, .ref mw, .long sm])]]) (by rw [RA4]) ?_
                  refine g_aload_n hX (pc := 108) dX4_does_108 2 rfl ?_
                  refine g_aload_n hX (pc := 109) dX4_does_109 1 rfl ?_
                  refine g_iconst hX (pc := 110) (v := 1) dX4_does_110 (by decide) ?_
                  refine g_iald hX (pc := 111) (sp_in 2 rfl hz) (v := g.2.2) (by unfold vp_in; decide) rfl dX4_does_111 ?_
                  refine g_eqi (nI j) (hj2) ?_
                  refine g_iload_n hX (pc := 112) dX4_does_112 0 rfl ?_
                  refine g_callV hX (pc := 113) kX4_answer (mt_W_answer E l wd sz ma lb nw lo r0 r1 r2 r3 mo j (Prod.snd (sDoes (mS (Prod.fst x)) g.2.2 (rC r) (rK r) (rY r) (rA r) (rB r))) (Prod.snd x) r (hj4) (by omega)) q1992 fcX4 (sp_mem (i := 6) rfl) [6, 0] rfl rfl rfl (Nat.le_of_ble_eq_true rfl) (Nat.le_of_ble_eq_true rfl) (Nat.le_of_ble_eq_true rfl) (by omega) (by omega) dX4_does_113 (fun v w1 hp => ?_)
                  obtain ⟨rfl, rfl⟩ := hp
                  refine g_nrm (cs1 := [[(wd, ob 3 [.int (nI sz), .ref ma, .ref lb, .int nw, .int lo, .ref r0, .ref r1, .ref r2, .ref r3, .ref mo])], RA4 E r0 r1 r2 r3 (List.set (Prod.snd x) j (rAns1 r (Prod.snd (sDoes (mS (Prod.fst x)) g.2.2 (rC r) (rK r) (rY r) (rA r) (rB r))) nw)), w136, fz, wr, [(rk2, ob 5 [.int (lT (mL (Prod.fst x))), .int (lV (mL (Prod.fst x))), .int (nI (lB (mL (Prod.fst x)))), .int (lBT (mL (Prod.fst x))), .ref sp16, .ref la15])], wl9, [(m, ob 4 [.int (mR (Prod.fst x)), .ref rk2, .ref rv3, .ref rs4, .int (nI (mDn (Prod.fst x) + 1)), .int (nI (mSu (Prod.fst x))), .int (mVt (Prod.fst x)), .ref rn5, .ref rp6, .int (bI (mLz (Prod.fst x)))])], [(rn5, iA (aC E 0) 5 fn7)], [(rp6, iA (aC E 0) 5 fk8)], [(mo, ob 2 [.int th, .ref lr, .ref mw, .long sm])]]) (st1 := []) rfl rfl ?_
                  rw [if_pos ⟨c38, c43⟩, rAnswer_y c53 c48] at hds0
                  have hds := hds0
                  have h58 : MRL E fz lr (List.set (Prod.snd x) j (rAns1 r (Prod.snd (sDoes (mS (Prod.fst x)) g.2.2 (rC r) (rK r) (rY r) (rA r) (rB r))) nw)) wr := mrl_set hRL hj4 rqF_ans
                  refine g_pk [7, 7, 7, 5, 5, 2] rfl ?_
                  refine g_cs (cs1 := [[(m, ob 4 [.int (mR (Prod.fst x)), .ref rk2, .ref rv3, .ref rs4, .int (nI (mDn (Prod.fst x) + 1)), .int (nI (mSu (Prod.fst x))), .int (mVt (Prod.fst x)), .ref rn5, .ref rp6, .int (bI (mLz (Prod.fst x)))])], [(rn5, iA (aC E 0) 5 fn7)], [(rp6, iA (aC E 0) 5 fk8)], [(rk2, ob 5 [.int (lT (mL (Prod.fst x))), .int (lV (mL (Prod.fst x))), .int (nI (lB (mL (Prod.fst x)))), .int (lBT (mL (Prod.fst x))), .ref sp16, .ref la15])], wl9, w136, [(wd, ob 3 [.int (nI sz), .ref ma, .ref lb, .int nw, .int lo, .ref r0, .ref r1, .ref r2, .ref r3, .ref mo])], RA4 E r0 r1 r2 r3 (List.set (Prod.snd x) j (rAns1 r (Prod.snd (sDoes (mS (Prod.fst x)) g.2.2 (rC r) (rK r) (rY r) (rA r) (rB r))) nw)), fz, wr, [(mo, ob 2 [.int th, .ref lr, .ref mw, .long sm])]]) rfl ?_
                  refine g_fl (cs1 := [((m, ob 4 [.int (mR (Prod.fst x)), .ref rk2, .ref rv3, .ref rs4, .int (nI (mDn (Prod.fst x) + 1)), .int (nI (mSu (Prod.fst x))), .int (mVt (Prod.fst x)), .ref rn5, .ref rp6, .int (bI (mLz (Prod.fst x)))]) :: (rn5, iA (aC E 0) 5 fn7) :: (rp6, iA (aC E 0) 5 fk8) :: (((rk2, ob 5 [.int (lT (mL (Prod.fst x))), .int (lV (mL (Prod.fst x))), .int (nI (lB (mL (Prod.fst x)))), .int (lBT (mL (Prod.fst x))), .ref sp16, .ref la15]) :: wl9) ++ w136)), [(wd, ob 3 [.int (nI sz), .ref ma, .ref lb, .int nw, .int lo, .ref r0, .ref r1, .ref r2, .ref r3, .ref mo])], RA4 E r0 r1 r2 r3 (List.set (Prod.snd x) j (rAns1 r (Prod.snd (sDoes (mS (Prod.fst x)) g.2.2 (rC r) (rK r) (rY r) (rA r) (rB r))) nw)), fz, wr, [(mo, ob 2 [.int th, .ref lr, .ref mw, .long sm])]]) (by simp only [List.flatten_cons, List.flatten_nil, List.cons_append, List.append_assoc, List.nil_append, List.append_nil]) ?_
                  have hM59 : IsMM E fz sz m (setS (setDn (Prod.fst x) (mDn (Prod.fst x) + 1)) (Prod.fst (sDoes (mS (Prod.fst x)) g.2.2 (rC r) (rK r) (rY r) (rA r) (rB r)))) ((m, ob 4 [.int (mR (Prod.fst x)), .ref rk2, .ref rv3, .ref rs4, .int (nI (mDn (Prod.fst x) + 1)), .int (nI (mSu (Prod.fst x))), .int (mVt (Prod.fst x)), .ref rn5, .ref rp6, .int (bI (mLz (Prod.fst x)))]) :: (rn5, iA (aC E 0) 5 fn7) :: (rp6, iA (aC E 0) 5 fk8) :: (((rk2, ob 5 [.int (lT (mL (Prod.fst x))), .int (lV (mL (Prod.fst x))), .int (nI (lB (mL (Prod.fst x)))), .int (lBT (mL (Prod.fst x))), .ref sp16, .ref la15]) :: wl9) ++ w136)) := ⟨_, _, _, _, _, _, _, _, _, hn11, ⟨_, _, _, _, hE18, hges19, hsp20, rfl⟩, hV13, ⟨_, h37⟩, rfl⟩
                  generalize ((m, ob 4 [.int (mR (Prod.fst x)), .ref rk2, .ref rv3, .ref rs4, .int (nI (mDn (Prod.fst x) + 1)), .int (nI (mSu (Prod.fst x))), .int (mVt (Prod.fst x)), .ref rn5, .ref rp6, .int (bI (mLz (Prod.fst x)))]) :: (rn5, iA (aC E 0) 5 fn7) :: (rp6, iA (aC E 0) 5 fk8) :: (((rk2, ob 5 [.int (lT (mL (Prod.fst x))), .int (lV (mL (Prod.fst x))), .int (nI (lB (mL (Prod.fst x)))), .int (lBT (mL (Prod.fst x))), .ref sp16, .ref la15]) :: wl9) ++ w136)) = wk60 at hM59 ⊢
                  have h61 : IsMM E fz sz m (Prod.fst (doStep nw x)) wk60 := by rw [hds]; exact hM59
                  have h62 : MRL E fz lr (Prod.snd (doStep nw x)) wr := by rw [hds]; exact h58
                  refine g_cs (cs1 := [wk60, [(wd, ob 3 [.int (nI sz), .ref ma, .ref lb, .int nw, .int lo, .ref r0, .ref r1, .ref r2, .ref r3, .ref mo])], (RA4 E r0 r1 r2 r3 (Prod.snd (doStep nw x))), fz, wr, [(mo, ob 2 [.int th, .ref lr, .ref mw, .long sm])]]) (by rw [hds]) ?_
                  refine g_goto hX (pc := 116) (tgt := 0) dX4_does_116 rfl ?_
                  refine g_pk [1, 0, 0, 2, 1, 0] rfl ?_
                  refine g_cs (cs1 := [[(wd, ob 3 [.int (nI sz), .ref ma, .ref lb, .int nw, .int lo, .ref r0, .ref r1, .ref r2, .ref r3, .ref mo])], wk60, (RA4 E r0 r1 r2 r3 (Prod.snd (doStep nw x))), [(mo, ob 2 [.int th, .ref lr, .ref mw, .long sm])], wr, fz]) rfl ?_
                  refine g_lv (lv1 := [(0, .ref wd), (1, .ref m)]) [2, 3] rfl ?_
                  refine g_widen (kc1 := 0) (ks1 := 0) (by omega) (by omega) ?_
                  exact ih1 (doStep nw x) wk60 (by omega) (hI2) (hG2) (⟨hSt.2.2.trans hx3.1, doStep_Lz.trans hx3.2⟩) h61 h62
        · have hds : doStep nw x = en3 (setDn (Prod.fst x) (mDn (Prod.fst x) + 1)) (Prod.snd x) := by
            unfold doStep
            rw [hge]
            exact if_pos c29
          refine g_pk [4, 4, 4, 0, 0, 2] rfl ?_
          refine g_cs (cs1 := [[(m, ob 4 [.int (mR (Prod.fst x)), .ref rk2, .ref rv3, .ref rs4, .int (nI (mDn (Prod.fst x) + 1)), .int (nI (mSu (Prod.fst x))), .int (mVt (Prod.fst x)), .ref rn5, .ref rp6, .int (bI (mLz (Prod.fst x)))])], [(rn5, iA (aC E 0) 5 fn7)], [(rp6, iA (aC E 0) 5 fk8)], [(rk2, ob 5 [.int (lT (mL (Prod.fst x))), .int (lV (mL (Prod.fst x))), .int (nI (lB (mL (Prod.fst x)))), .int (lBT (mL (Prod.fst x))), .ref sp16, .ref la15])], wl9, ws10, fz, [(wd, ob 3 [.int (nI sz), .ref ma, .ref lb, .int nw, .int lo, .ref r0, .ref r1, .ref r2, .ref r3, .ref mo])], (RA4 E r0 r1 r2 r3 (Prod.snd x)), [(mo, ob 2 [.int th, .ref lr, .ref mw, .long sm])], wr]) rfl ?_
          refine g_fl (cs1 := [((m, ob 4 [.int (mR (Prod.fst x)), .ref rk2, .ref rv3, .ref rs4, .int (nI (mDn (Prod.fst x) + 1)), .int (nI (mSu (Prod.fst x))), .int (mVt (Prod.fst x)), .ref rn5, .ref rp6, .int (bI (mLz (Prod.fst x)))]) :: (rn5, iA (aC E 0) 5 fn7) :: (rp6, iA (aC E 0) 5 fk8) :: (((rk2, ob 5 [.int (lT (mL (Prod.fst x))), .int (lV (mL (Prod.fst x))), .int (nI (lB (mL (Prod.fst x)))), .int (lBT (mL (Prod.fst x))), .ref sp16, .ref la15]) :: wl9) ++ ws10)), fz, [(wd, ob 3 [.int (nI sz), .ref ma, .ref lb, .int nw, .int lo, .ref r0, .ref r1, .ref r2, .ref r3, .ref mo])], (RA4 E r0 r1 r2 r3 (Prod.snd x)), [(mo, ob 2 [.int th, .ref lr, .ref mw, .long sm])], wr]) (by simp only [List.flatten_cons, List.flatten_nil, List.cons_append, List.append_assoc, List.nil_append, List.append_nil]) ?_
          have hM63 : IsMM E fz sz m (setDn (Prod.fst x) (mDn (Prod.fst x) + 1)) ((m, ob 4 [.int (mR (Prod.fst x)), .ref rk2, .ref rv3, .ref rs4, .int (nI (mDn (Prod.fst x) + 1)), .int (nI (mSu (Prod.fst x))), .int (mVt (Prod.fst x)), .ref rn5, .ref rp6, .int (bI (mLz (Prod.fst x)))]) :: (rn5, iA (aC E 0) 5 fn7) :: (rp6, iA (aC E 0) 5 fk8) :: (((rk2, ob 5 [.int (lT (mL (Prod.fst x))), .int (lV (mL (Prod.fst x))), .int (nI (lB (mL (Prod.fst x)))), .int (lBT (mL (Prod.fst x))), .ref sp16, .ref la15]) :: wl9) ++ ws10)) := ⟨_, _, _, _, _, _, _, _, _, hn11, ⟨_, _, _, _, hE18, hges19, hsp20, rfl⟩, hV13, hS14, rfl⟩
          generalize ((m, ob 4 [.int (mR (Prod.fst x)), .ref rk2, .ref rv3, .ref rs4, .int (nI (mDn (Prod.fst x) + 1)), .int (nI (mSu (Prod.fst x))), .int (mVt (Prod.fst x)), .ref rn5, .ref rp6, .int (bI (mLz (Prod.fst x)))]) :: (rn5, iA (aC E 0) 5 fn7) :: (rp6, iA (aC E 0) 5 fk8) :: (((rk2, ob 5 [.int (lT (mL (Prod.fst x))), .int (lV (mL (Prod.fst x))), .int (nI (lB (mL (Prod.fst x)))), .int (lBT (mL (Prod.fst x))), .ref sp16, .ref la15]) :: wl9) ++ ws10)) = wk64 at hM63 ⊢
          have h65 : IsMM E fz sz m (Prod.fst (doStep nw x)) wk64 := by rw [hds]; exact hM63
          have h66 : MRL E fz lr (Prod.snd (doStep nw x)) wr := by rw [hds]; exact hRL
          refine g_cs (cs1 := [wk64, fz, [(wd, ob 3 [.int (nI sz), .ref ma, .ref lb, .int nw, .int lo, .ref r0, .ref r1, .ref r2, .ref r3, .ref mo])], (RA4 E r0 r1 r2 r3 (Prod.snd (doStep nw x))), [(mo, ob 2 [.int th, .ref lr, .ref mw, .long sm])], wr]) (by rw [hds]) ?_
          refine g_goto hX (pc := 40) (tgt := 0) dX4_does_40 rfl ?_
          refine g_pk [2, 0, 1, 1, 1, 0] rfl ?_
          refine g_cs (cs1 := [[(wd, ob 3 [.int (nI sz), .ref ma, .ref lb, .int nw, .int lo, .ref r0, .ref r1, .ref r2, .ref r3, .ref mo])], wk64, (RA4 E r0 r1 r2 r3 (Prod.snd (doStep nw x))), [(mo, ob 2 [.int th, .ref lr, .ref mw, .long sm])], wr, fz]) rfl ?_
          refine g_lv (lv1 := [(0, .ref wd), (1, .ref m)]) [1, 2] rfl ?_
          refine g_widen (kc1 := 0) (ks1 := 0) (by omega) (by omega) ?_
          exact ih1 (doStep nw x) wk64 (by omega) (hI2) (hG2) (⟨hSt.2.2.trans hx3.1, doStep_Lz.trans hx3.2⟩) h65 h66
  refine g_widen (kc1 := 0) (ks1 := 0) (by omega) (by omega) ?_
  exact lp1 ((mSu M - mDn (Prod.fst (en3 M R))) + 1) (en3 M R) wk (Nat.lt_succ_self _) (hI0) (rfl) (⟨rfl, rfl⟩) (hM) (hRq)
