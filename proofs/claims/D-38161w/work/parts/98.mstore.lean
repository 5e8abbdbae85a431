/-! the model's Store and Kept -/
theorem s6_u2n {S : PS} {f0 f1 f2 f3 f4 f5 : Nat → Int32} (h : S6 S f0 f1 f2 f3 f4 f5) (k : Nat) (x : Int32) (hx : x = S 2 k) : S6 (up2 S 2 k x) f0 f1 f2 f3 f4 f5 := by
  intro q hq
  obtain ⟨e0, e1, e2, e3, e4, e5⟩ := h q hq
  refine ⟨?_, ?_, ?_, ?_, ?_, ?_⟩ <;> simp [up2, e0, e1, e2, e3, e4, e5]
  intro hk
  rw [hx, hk]
theorem s6_u0n {S : PS} {f0 f1 f2 f3 f4 f5 : Nat → Int32} (h : S6 S f0 f1 f2 f3 f4 f5) (k : Nat) (x : Int32) (hx : x = S 0 k) : S6 (up2 S 0 k x) f0 f1 f2 f3 f4 f5 := by
  intro q hq
  obtain ⟨e0, e1, e2, e3, e4, e5⟩ := h q hq
  refine ⟨?_, ?_, ?_, ?_, ?_, ?_⟩ <;> simp [up2, e0, e1, e2, e3, e4, e5]
  intro hk
  rw [hx, hk]

set_option maxHeartbeats 4000000 in
theorem mt_MS_init (E : EE) (l : Launch) (a : Nat) : Mt E l yX7_init cX7_init 1 none 1 6 24 12 [.ref a] [[(a, ob 6 [.null, .null, .null, .null, .int 0, .null, .null])]] (fun (v_ : Option Value) (cs_ : List va_W) => ∃ (w : va_W), IsMT E a S0 w ∧ v_ = none ∧ cs_ = [w]) := by
  refine Mt.of (by decide) (Nat.le_of_ble_eq_true rfl) (fun X hX hR hin => ?_)
  refine g_lv1 (lv1 := [(0, .ref a)]) rfl ?_
  refine g_aload_n hX (pc := 0) dX7_init_0 0 rfl ?_
  refine g_objInit hX (pc := 1) q1625 q_oi1 q_oi2 (Nat.le_of_ble_eq_true rfl) (Nat.le_of_ble_eq_true rfl) dX7_init_1 ?_
  refine g_aload_n hX (pc := 4) dX7_init_4 0 rfl ?_
  refine g_iconst hX (pc := 5) (v := 4) dX7_init_5 (by decide) ?_
  refine g_newi hX (pc := 6) q918 4 (by decide) (by decide) (Nat.le_of_ble_eq_true rfl) (Nat.le_of_ble_eq_true rfl) (Nat.le_of_ble_eq_true rfl) dX7_init_6 (fun q1 => ?_)
  refine g_putF hX (pc := 8) fcX7 1 (fs1 := [.ref q1, .null, .null, .null, .int 0, .null, .null]) (cs1 := [[(q1, iA (aC E 0) 4 (fun _ => 0))], [(a, ob 6 [.ref q1, .null, .null, .null, .int 0, .null, .null])]]) rfl 0 (by decide) q1626 rfl rfl hin rfl rfl rfl (Nat.le_of_ble_eq_true rfl) rfl rfl dX7_init_8 ?_
  refine g_aload_n hX (pc := 11) dX7_init_11 0 rfl ?_
  refine g_iconst hX (pc := 12) (v := 4) dX7_init_12 (by decide) ?_
  refine g_newi hX (pc := 13) q918 4 (by decide) (by decide) (Nat.le_of_ble_eq_true rfl) (Nat.le_of_ble_eq_true rfl) (Nat.le_of_ble_eq_true rfl) dX7_init_13 (fun q2 => ?_)
  refine g_dup hX (pc := 15) dX7_init_15 rfl ?_
  refine g_iconst hX (pc := 16) (v := 0) dX7_init_16 (by decide) ?_
  refine g_iconst hX (pc := 17) (v := (-1)) dX7_init_17 (by decide) ?_
  refine g_iast hX (pc := 18) (f1 := (upd (fun _ => 0) 0 (-1))) (cs1 := [[(q2, iA (aC E 0) 4 (upd (fun _ => 0) 0 (-1)))], [(q1, iA (aC E 0) 4 (fun _ => 0))], [(a, ob 6 [.ref q1, .null, .null, .null, .int 0, .null, .null])]]) 0 rfl (by unfold vp_in; decide) rfl rfl dX7_init_18 ?_
  refine g_dup hX (pc := 19) dX7_init_19 rfl ?_
  refine g_iconst hX (pc := 20) (v := 1) dX7_init_20 (by decide) ?_
  refine g_iconst hX (pc := 21) (v := (-1)) dX7_init_21 (by decide) ?_
  refine g_iast hX (pc := 22) (f1 := (upd (upd (fun _ => 0) 0 (-1)) 1 (-1))) (cs1 := [[(q2, iA (aC E 0) 4 (upd (upd (fun _ => 0) 0 (-1)) 1 (-1)))], [(q1, iA (aC E 0) 4 (fun _ => 0))], [(a, ob 6 [.ref q1, .null, .null, .null, .int 0, .null, .null])]]) 0 rfl (by unfold vp_in; decide) rfl rfl dX7_init_22 ?_
  refine g_dup hX (pc := 23) dX7_init_23 rfl ?_
  refine g_iconst hX (pc := 24) (v := 2) dX7_init_24 (by decide) ?_
  refine g_iconst hX (pc := 25) (v := (-1)) dX7_init_25 (by decide) ?_
  refine g_iast hX (pc := 26) (f1 := (upd (upd (upd (fun _ => 0) 0 (-1)) 1 (-1)) 2 (-1))) (cs1 := [[(q2, iA (aC E 0) 4 (upd (upd (upd (fun _ => 0) 0 (-1)) 1 (-1)) 2 (-1)))], [(q1, iA (aC E 0) 4 (fun _ => 0))], [(a, ob 6 [.ref q1, .null, .null, .null, .int 0, .null, .null])]]) 0 rfl (by unfold vp_in; decide) rfl rfl dX7_init_26 ?_
  refine g_dup hX (pc := 27) dX7_init_27 rfl ?_
  refine g_iconst hX (pc := 28) (v := 3) dX7_init_28 (by decide) ?_
  refine g_iconst hX (pc := 29) (v := (-1)) dX7_init_29 (by decide) ?_
  refine g_iast hX (pc := 30) (f1 := (upd (upd (upd (upd (fun _ => 0) 0 (-1)) 1 (-1)) 2 (-1)) 3 (-1))) (cs1 := [[(q2, iA (aC E 0) 4 (upd (upd (upd (upd (fun _ => 0) 0 (-1)) 1 (-1)) 2 (-1)) 3 (-1)))], [(q1, iA (aC E 0) 4 (fun _ => 0))], [(a, ob 6 [.ref q1, .null, .null, .null, .int 0, .null, .null])]]) 0 rfl (by unfold vp_in; decide) rfl rfl dX7_init_30 ?_
  refine g_putF hX (pc := 31) fcX7 2 (fs1 := [.ref q1, .ref q2, .null, .null, .int 0, .null, .null]) (cs1 := [[(q2, iA (aC E 0) 4 (upd (upd (upd (upd (fun _ => 0) 0 (-1)) 1 (-1)) 2 (-1)) 3 (-1)))], [(q1, iA (aC E 0) 4 (fun _ => 0))], [(a, ob 6 [.ref q1, .ref q2, .null, .null, .int 0, .null, .null])]]) rfl 1 (by decide) q1628 rfl rfl hin rfl rfl rfl (Nat.le_of_ble_eq_true rfl) rfl rfl dX7_init_31 ?_
  refine g_aload_n hX (pc := 34) dX7_init_34 0 rfl ?_
  refine g_iconst hX (pc := 35) (v := 4) dX7_init_35 (by decide) ?_
  refine g_newi hX (pc := 36) q918 4 (by decide) (by decide) (Nat.le_of_ble_eq_true rfl) (Nat.le_of_ble_eq_true rfl) (Nat.le_of_ble_eq_true rfl) dX7_init_36 (fun q3 => ?_)
  refine g_putF hX (pc := 38) fcX7 3 (fs1 := [.ref q1, .ref q2, .ref q3, .null, .int 0, .null, .null]) (cs1 := [[(q3, iA (aC E 0) 4 (fun _ => 0))], [(q2, iA (aC E 0) 4 (upd (upd (upd (upd (fun _ => 0) 0 (-1)) 1 (-1)) 2 (-1)) 3 (-1)))], [(q1, iA (aC E 0) 4 (fun _ => 0))], [(a, ob 6 [.ref q1, .ref q2, .ref q3, .null, .int 0, .null, .null])]]) rfl 2 (by decide) q1630 rfl rfl hin rfl rfl rfl (Nat.le_of_ble_eq_true rfl) rfl rfl dX7_init_38 ?_
  refine g_aload_n hX (pc := 41) dX7_init_41 0 rfl ?_
  refine g_iconst hX (pc := 42) (v := 4) dX7_init_42 (by decide) ?_
  refine g_newi hX (pc := 43) q918 4 (by decide) (by decide) (Nat.le_of_ble_eq_true rfl) (Nat.le_of_ble_eq_true rfl) (Nat.le_of_ble_eq_true rfl) dX7_init_43 (fun q4 => ?_)
  refine g_dup hX (pc := 45) dX7_init_45 rfl ?_
  refine g_iconst hX (pc := 46) (v := 0) dX7_init_46 (by decide) ?_
  refine g_iconst hX (pc := 47) (v := (-1)) dX7_init_47 (by decide) ?_
  refine g_iast hX (pc := 48) (f1 := (upd (fun _ => 0) 0 (-1))) (cs1 := [[(q4, iA (aC E 0) 4 (upd (fun _ => 0) 0 (-1)))], [(q3, iA (aC E 0) 4 (fun _ => 0))], [(q2, iA (aC E 0) 4 (upd (upd (upd (upd (fun _ => 0) 0 (-1)) 1 (-1)) 2 (-1)) 3 (-1)))], [(q1, iA (aC E 0) 4 (fun _ => 0))], [(a, ob 6 [.ref q1, .ref q2, .ref q3, .null, .int 0, .null, .null])]]) 0 rfl (by unfold vp_in; decide) rfl rfl dX7_init_48 ?_
  refine g_dup hX (pc := 49) dX7_init_49 rfl ?_
  refine g_iconst hX (pc := 50) (v := 1) dX7_init_50 (by decide) ?_
  refine g_iconst hX (pc := 51) (v := (-1)) dX7_init_51 (by decide) ?_
  refine g_iast hX (pc := 52) (f1 := (upd (upd (fun _ => 0) 0 (-1)) 1 (-1))) (cs1 := [[(q4, iA (aC E 0) 4 (upd (upd (fun _ => 0) 0 (-1)) 1 (-1)))], [(q3, iA (aC E 0) 4 (fun _ => 0))], [(q2, iA (aC E 0) 4 (upd (upd (upd (upd (fun _ => 0) 0 (-1)) 1 (-1)) 2 (-1)) 3 (-1)))], [(q1, iA (aC E 0) 4 (fun _ => 0))], [(a, ob 6 [.ref q1, .ref q2, .ref q3, .null, .int 0, .null, .null])]]) 0 rfl (by unfold vp_in; decide) rfl rfl dX7_init_52 ?_
  refine g_dup hX (pc := 53) dX7_init_53 rfl ?_
  refine g_iconst hX (pc := 54) (v := 2) dX7_init_54 (by decide) ?_
  refine g_iconst hX (pc := 55) (v := (-1)) dX7_init_55 (by decide) ?_
  refine g_iast hX (pc := 56) (f1 := (upd (upd (upd (fun _ => 0) 0 (-1)) 1 (-1)) 2 (-1))) (cs1 := [[(q4, iA (aC E 0) 4 (upd (upd (upd (fun _ => 0) 0 (-1)) 1 (-1)) 2 (-1)))], [(q3, iA (aC E 0) 4 (fun _ => 0))], [(q2, iA (aC E 0) 4 (upd (upd (upd (upd (fun _ => 0) 0 (-1)) 1 (-1)) 2 (-1)) 3 (-1)))], [(q1, iA (aC E 0) 4 (fun _ => 0))], [(a, ob 6 [.ref q1, .ref q2, .ref q3, .null, .int 0, .null, .null])]]) 0 rfl (by unfold vp_in; decide) rfl rfl dX7_init_56 ?_
  refine g_dup hX (pc := 57) dX7_init_57 rfl ?_
  refine g_iconst hX (pc := 58) (v := 3) dX7_init_58 (by decide) ?_
  refine g_iconst hX (pc := 59) (v := (-1)) dX7_init_59 (by decide) ?_
  refine g_iast hX (pc := 60) (f1 := (upd (upd (upd (upd (fun _ => 0) 0 (-1)) 1 (-1)) 2 (-1)) 3 (-1))) (cs1 := [[(q4, iA (aC E 0) 4 (upd (upd (upd (upd (fun _ => 0) 0 (-1)) 1 (-1)) 2 (-1)) 3 (-1)))], [(q3, iA (aC E 0) 4 (fun _ => 0))], [(q2, iA (aC E 0) 4 (upd (upd (upd (upd (fun _ => 0) 0 (-1)) 1 (-1)) 2 (-1)) 3 (-1)))], [(q1, iA (aC E 0) 4 (fun _ => 0))], [(a, ob 6 [.ref q1, .ref q2, .ref q3, .null, .int 0, .null, .null])]]) 0 rfl (by unfold vp_in; decide) rfl rfl dX7_init_60 ?_
  refine g_putF hX (pc := 61) fcX7 4 (fs1 := [.ref q1, .ref q2, .ref q3, .ref q4, .int 0, .null, .null]) (cs1 := [[(q4, iA (aC E 0) 4 (upd (upd (upd (upd (fun _ => 0) 0 (-1)) 1 (-1)) 2 (-1)) 3 (-1)))], [(q3, iA (aC E 0) 4 (fun _ => 0))], [(q2, iA (aC E 0) 4 (upd (upd (upd (upd (fun _ => 0) 0 (-1)) 1 (-1)) 2 (-1)) 3 (-1)))], [(q1, iA (aC E 0) 4 (fun _ => 0))], [(a, ob 6 [.ref q1, .ref q2, .ref q3, .ref q4, .int 0, .null, .null])]]) rfl 3 (by decide) q1632 rfl rfl hin rfl rfl rfl (Nat.le_of_ble_eq_true rfl) rfl rfl dX7_init_61 ?_
  refine g_aload_n hX (pc := 64) dX7_init_64 0 rfl ?_
  refine g_iconst hX (pc := 65) (v := 4) dX7_init_65 (by decide) ?_
  refine g_newi hX (pc := 66) q918 4 (by decide) (by decide) (Nat.le_of_ble_eq_true rfl) (Nat.le_of_ble_eq_true rfl) (Nat.le_of_ble_eq_true rfl) dX7_init_66 (fun q5 => ?_)
  refine g_dup hX (pc := 68) dX7_init_68 rfl ?_
  refine g_iconst hX (pc := 69) (v := 0) dX7_init_69 (by decide) ?_
  refine g_iconst hX (pc := 70) (v := (-1)) dX7_init_70 (by decide) ?_
  refine g_iast hX (pc := 71) (f1 := (upd (fun _ => 0) 0 (-1))) (cs1 := [[(q5, iA (aC E 0) 4 (upd (fun _ => 0) 0 (-1)))], [(q4, iA (aC E 0) 4 (upd (upd (upd (upd (fun _ => 0) 0 (-1)) 1 (-1)) 2 (-1)) 3 (-1)))], [(q3, iA (aC E 0) 4 (fun _ => 0))], [(q2, iA (aC E 0) 4 (upd (upd (upd (upd (fun _ => 0) 0 (-1)) 1 (-1)) 2 (-1)) 3 (-1)))], [(q1, iA (aC E 0) 4 (fun _ => 0))], [(a, ob 6 [.ref q1, .ref q2, .ref q3, .ref q4, .int 0, .null, .null])]]) 0 rfl (by unfold vp_in; decide) rfl rfl dX7_init_71 ?_
  refine g_dup hX (pc := 72) dX7_init_72 rfl ?_
  refine g_iconst hX (pc := 73) (v := 1) dX7_init_73 (by decide) ?_
  refine g_iconst hX (pc := 74) (v := (-1)) dX7_init_74 (by decide) ?_
  refine g_iast hX (pc := 75) (f1 := (upd (upd (fun _ => 0) 0 (-1)) 1 (-1))) (cs1 := [[(q5, iA (aC E 0) 4 (upd (upd (fun _ => 0) 0 (-1)) 1 (-1)))], [(q4, iA (aC E 0) 4 (upd (upd (upd (upd (fun _ => 0) 0 (-1)) 1 (-1)) 2 (-1)) 3 (-1)))], [(q3, iA (aC E 0) 4 (fun _ => 0))], [(q2, iA (aC E 0) 4 (upd (upd (upd (upd (fun _ => 0) 0 (-1)) 1 (-1)) 2 (-1)) 3 (-1)))], [(q1, iA (aC E 0) 4 (fun _ => 0))], [(a, ob 6 [.ref q1, .ref q2, .ref q3, .ref q4, .int 0, .null, .null])]]) 0 rfl (by unfold vp_in; decide) rfl rfl dX7_init_75 ?_
  refine g_dup hX (pc := 76) dX7_init_76 rfl ?_
  refine g_iconst hX (pc := 77) (v := 2) dX7_init_77 (by decide) ?_
  refine g_iconst hX (pc := 78) (v := (-1)) dX7_init_78 (by decide) ?_
  refine g_iast hX (pc := 79) (f1 := (upd (upd (upd (fun _ => 0) 0 (-1)) 1 (-1)) 2 (-1))) (cs1 := [[(q5, iA (aC E 0) 4 (upd (upd (upd (fun _ => 0) 0 (-1)) 1 (-1)) 2 (-1)))], [(q4, iA (aC E 0) 4 (upd (upd (upd (upd (fun _ => 0) 0 (-1)) 1 (-1)) 2 (-1)) 3 (-1)))], [(q3, iA (aC E 0) 4 (fun _ => 0))], [(q2, iA (aC E 0) 4 (upd (upd (upd (upd (fun _ => 0) 0 (-1)) 1 (-1)) 2 (-1)) 3 (-1)))], [(q1, iA (aC E 0) 4 (fun _ => 0))], [(a, ob 6 [.ref q1, .ref q2, .ref q3, .ref q4, .int 0, .null, .null])]]) 0 rfl (by unfold vp_in; decide) rfl rfl dX7_init_79 ?_
  refine g_dup hX (pc := 80) dX7_init_80 rfl ?_
  refine g_iconst hX (pc := 81) (v := 3) dX7_init_81 (by decide) ?_
  refine g_iconst hX (pc := 82) (v := (-1)) dX7_init_82 (by decide) ?_
  refine g_iast hX (pc := 83) (f1 := (upd (upd (upd (upd (fun _ => 0) 0 (-1)) 1 (-1)) 2 (-1)) 3 (-1))) (cs1 := [[(q5, iA (aC E 0) 4 (upd (upd (upd (upd (fun _ => 0) 0 (-1)) 1 (-1)) 2 (-1)) 3 (-1)))], [(q4, iA (aC E 0) 4 (upd (upd (upd (upd (fun _ => 0) 0 (-1)) 1 (-1)) 2 (-1)) 3 (-1)))], [(q3, iA (aC E 0) 4 (fun _ => 0))], [(q2, iA (aC E 0) 4 (upd (upd (upd (upd (fun _ => 0) 0 (-1)) 1 (-1)) 2 (-1)) 3 (-1)))], [(q1, iA (aC E 0) 4 (fun _ => 0))], [(a, ob 6 [.ref q1, .ref q2, .ref q3, .ref q4, .int 0, .null, .null])]]) 0 rfl (by unfold vp_in; decide) rfl rfl dX7_init_83 ?_
  refine g_putF hX (pc := 84) fcX7 5 (fs1 := [.ref q1, .ref q2, .ref q3, .ref q4, .int 0, .ref q5, .null]) (cs1 := [[(q5, iA (aC E 0) 4 (upd (upd (upd (upd (fun _ => 0) 0 (-1)) 1 (-1)) 2 (-1)) 3 (-1)))], [(q4, iA (aC E 0) 4 (upd (upd (upd (upd (fun _ => 0) 0 (-1)) 1 (-1)) 2 (-1)) 3 (-1)))], [(q3, iA (aC E 0) 4 (fun _ => 0))], [(q2, iA (aC E 0) 4 (upd (upd (upd (upd (fun _ => 0) 0 (-1)) 1 (-1)) 2 (-1)) 3 (-1)))], [(q1, iA (aC E 0) 4 (fun _ => 0))], [(a, ob 6 [.ref q1, .ref q2, .ref q3, .ref q4, .int 0, .ref q5, .null])]]) rfl 5 (by decide) q1636 rfl rfl hin rfl rfl rfl (Nat.le_of_ble_eq_true rfl) rfl rfl dX7_init_84 ?_
  refine g_aload_n hX (pc := 87) dX7_init_87 0 rfl ?_
  refine g_iconst hX (pc := 88) (v := 4) dX7_init_88 (by decide) ?_
  refine g_newi hX (pc := 89) q918 4 (by decide) (by decide) (Nat.le_of_ble_eq_true rfl) (Nat.le_of_ble_eq_true rfl) (Nat.le_of_ble_eq_true rfl) dX7_init_89 (fun q6 => ?_)
  refine g_putF hX (pc := 91) fcX7 6 (fs1 := [.ref q1, .ref q2, .ref q3, .ref q4, .int 0, .ref q5, .ref q6]) (cs1 := [[(q6, iA (aC E 0) 4 (fun _ => 0))], [(q5, iA (aC E 0) 4 (upd (upd (upd (upd (fun _ => 0) 0 (-1)) 1 (-1)) 2 (-1)) 3 (-1)))], [(q4, iA (aC E 0) 4 (upd (upd (upd (upd (fun _ => 0) 0 (-1)) 1 (-1)) 2 (-1)) 3 (-1)))], [(q3, iA (aC E 0) 4 (fun _ => 0))], [(q2, iA (aC E 0) 4 (upd (upd (upd (upd (fun _ => 0) 0 (-1)) 1 (-1)) 2 (-1)) 3 (-1)))], [(q1, iA (aC E 0) 4 (fun _ => 0))], [(a, ob 6 [.ref q1, .ref q2, .ref q3, .ref q4, .int 0, .ref q5, .ref q6])]]) rfl 6 (by decide) q1637 rfl rfl hin rfl rfl rfl (Nat.le_of_ble_eq_true rfl) rfl rfl dX7_init_91 ?_
  refine g_pk [6, 5, 4, 3, 2, 1, 0] rfl ?_
  refine g_fl (cs1 := [[(a, ob 6 [.ref q1, .ref q2, .ref q3, .ref q4, .int 0, .ref q5, .ref q6]), (q1, iA (aC E 0) 4 (fun _ => 0)), (q2, iA (aC E 0) 4 (upd (upd (upd (upd (fun _ => 0) 0 (-1)) 1 (-1)) 2 (-1)) 3 (-1))), (q3, iA (aC E 0) 4 (fun _ => 0)), (q4, iA (aC E 0) 4 (upd (upd (upd (upd (fun _ => 0) 0 (-1)) 1 (-1)) 2 (-1)) 3 (-1))), (q5, iA (aC E 0) 4 (upd (upd (upd (upd (fun _ => 0) 0 (-1)) 1 (-1)) 2 (-1)) 3 (-1))), (q6, iA (aC E 0) 4 (fun _ => 0))]]) rfl ?_
  refine g_vret hX (pc := 94) hR ?_ (Nat.le_of_ble_eq_true rfl) (Nat.le_of_ble_eq_true rfl) dX7_init_94
  exact ⟨_, IsMT.mk6 (by intro k hk; rcases (show k = 0 ∨ k = 1 ∨ k = 2 ∨ k = 3 by omega) with rfl | rfl | rfl | rfl <;> decide) rfl, rfl, rfl⟩

set_option maxHeartbeats 4000000 in
theorem mt_MS_open (E : EE) (l : Launch) (a : Nat) (sr : Nat → Nat) (S : PS) (w : va_W) (ky : Nat) (hw : IsMR E a sr S w) (hk : (ky < 4)) : Mt E l yX7_open cX7_open 2 none 1 0 0 1 [.ref a, .int (nI ky)] [w] (fun (v_ : Option Value) (cs_ : List va_W) => ∃ (w1 : va_W), IsMR E a sr (up2 (up2 S 1 ky (-1)) 3 ky (-1)) w1 ∧ v_ = none ∧ cs_ = [w1]) := by
  obtain ⟨f0, f1, f2, f3, f4, f5, hS, rfl⟩ := hw
  refine Mt.of (by decide) (Nat.le_of_ble_eq_true rfl) (fun X hX hR hin => ?_)
  refine g_lv1 (lv1 := [(0, .ref a), (1, .int (nI ky))]) rfl ?_
  refine g_fl (cs1 := [[(a, ob 6 [.ref (sr 0), .ref (sr 1), .ref (sr 2), .ref (sr 3), .int (S 6 0), .ref (sr 4), .ref (sr 5)])], [(sr 0, iA (aC E 0) 4 f0)], [(sr 1, iA (aC E 0) 4 f1)], [(sr 2, iA (aC E 0) 4 f2)], [(sr 3, iA (aC E 0) 4 f3)], [(sr 4, iA (aC E 0) 4 f4)], [(sr 5, iA (aC E 0) 4 f5)]]) rfl ?_
  refine g_aload_n hX (pc := 0) dX7_open_0 0 rfl ?_
  refine g_get hX (pc := 1) fcX7 0 rfl 1 (by decide) q1628 rfl (v := .ref (sr 1)) rfl dX7_open_1 ?_
  refine g_iload_n hX (pc := 4) dX7_open_4 1 rfl ?_
  refine g_iconst hX (pc := 5) (v := (-1)) dX7_open_5 (by decide) ?_
  refine g_iast hX (pc := 6) (f1 := (upd f1 ky (-1))) (cs1 := [[(a, ob 6 [.ref (sr 0), .ref (sr 1), .ref (sr 2), .ref (sr 3), .int (S 6 0), .ref (sr 4), .ref (sr 5)])], [(sr 0, iA (aC E 0) 4 f0)], [(sr 1, iA (aC E 0) 4 (upd f1 ky (-1)))], [(sr 2, iA (aC E 0) 4 f2)], [(sr 3, iA (aC E 0) 4 f3)], [(sr 4, iA (aC E 0) 4 f4)], [(sr 5, iA (aC E 0) 4 f5)]]) 2 rfl (vp_in_nI (by omega) (by omega)) (by rw [nI_clamp (by omega)]) rfl dX7_open_6 ?_
  refine g_aload_n hX (pc := 7) dX7_open_7 0 rfl ?_
  refine g_get hX (pc := 8) fcX7 0 rfl 3 (by decide) q1632 rfl (v := .ref (sr 3)) rfl dX7_open_8 ?_
  refine g_iload_n hX (pc := 11) dX7_open_11 1 rfl ?_
  refine g_iconst hX (pc := 12) (v := (-1)) dX7_open_12 (by decide) ?_
  refine g_iast hX (pc := 13) (f1 := (upd f3 ky (-1))) (cs1 := [[(a, ob 6 [.ref (sr 0), .ref (sr 1), .ref (sr 2), .ref (sr 3), .int (S 6 0), .ref (sr 4), .ref (sr 5)])], [(sr 0, iA (aC E 0) 4 f0)], [(sr 1, iA (aC E 0) 4 (upd f1 ky (-1)))], [(sr 2, iA (aC E 0) 4 f2)], [(sr 3, iA (aC E 0) 4 (upd f3 ky (-1)))], [(sr 4, iA (aC E 0) 4 f4)], [(sr 5, iA (aC E 0) 4 f5)]]) 4 rfl (vp_in_nI (by omega) (by omega)) (by rw [nI_clamp (by omega)]) rfl dX7_open_13 ?_
  refine g_pk [0, 0, 0, 0, 0, 0, 0] rfl ?_
  refine g_fl (cs1 := [[(a, ob 6 [.ref (sr 0), .ref (sr 1), .ref (sr 2), .ref (sr 3), .int (S 6 0), .ref (sr 4), .ref (sr 5)]), (sr 0, iA (aC E 0) 4 f0), (sr 1, iA (aC E 0) 4 (upd f1 ky (-1))), (sr 2, iA (aC E 0) 4 f2), (sr 3, iA (aC E 0) 4 (upd f3 ky (-1))), (sr 4, iA (aC E 0) 4 f4), (sr 5, iA (aC E 0) 4 f5)]]) rfl ?_
  refine g_vret hX (pc := 14) hR ?_ (Nat.le_of_ble_eq_true rfl) (Nat.le_of_ble_eq_true rfl) dX7_open_14
  exact ⟨_, IsMR.mk6 (s6_u3 (s6_u1 hS ky (-1)) ky (-1)) rfl, rfl, rfl⟩

set_option maxHeartbeats 4000000 in
theorem mt_MS_lock (E : EE) (l : Launch) (a : Nat) (sr : Nat → Nat) (S : PS) (w : va_W) (c : Nat) (ky : Nat) (ra : Int32) (hw : IsMR E a sr S w) (hk : (ky < 4)) : Mt E l yX7_lock cX7_lock 4 (some .int) 1 0 0 1 [.ref a, .int (nI c), .int (nI ky), .int ra] [w] (fun (v_ : Option Value) (cs_ : List va_W) => ∃ (w1 : va_W), IsMR E a sr (Prod.fst (sLock S ky (nI c) ra)) w1 ∧ v_ = some (.int (Prod.snd (sLock S ky (nI c) ra))) ∧ cs_ = [w1]) := by
  obtain ⟨f0, f1, f2, f3, f4, f5, hS, rfl⟩ := hw
  obtain ⟨e0, e1, e2, e3, e4, e5⟩ := hS ky hk
  refine Mt.of (by decide) (Nat.le_of_ble_eq_true rfl) (fun X hX hR hin => ?_)
  refine g_lv1 (lv1 := [(0, .ref a), (1, .int (nI c)), (2, .int (nI ky)), (3, .int ra)]) rfl ?_
  refine g_fl (cs1 := [[(a, ob 6 [.ref (sr 0), .ref (sr 1), .ref (sr 2), .ref (sr 3), .int (S 6 0), .ref (sr 4), .ref (sr 5)])], [(sr 0, iA (aC E 0) 4 f0)], [(sr 1, iA (aC E 0) 4 f1)], [(sr 2, iA (aC E 0) 4 f2)], [(sr 3, iA (aC E 0) 4 f3)], [(sr 4, iA (aC E 0) 4 f4)], [(sr 5, iA (aC E 0) 4 f5)]]) rfl ?_
  refine g_aload_n hX (pc := 0) dX7_lock_0 0 rfl ?_
  refine g_get hX (pc := 1) fcX7 0 rfl 1 (by decide) q1628 rfl (v := .ref (sr 1)) rfl dX7_lock_1 ?_
  refine g_iload_n hX (pc := 4) dX7_lock_4 2 rfl ?_
  refine g_iald hX (pc := 5) (sp_mem (i := 2) rfl) (v := f1 ky) (vp_in_nI (by omega) (by omega)) (by rw [nI_clamp (by omega)]) dX7_lock_5 ?_
  refine g_iconst hX (pc := 6) (v := (-1)) dX7_lock_6 (by decide) ?_
  refine g_icmp_eq hX (pc := 7) (tgt := 22) dX7_lock_7 rfl (fun c1 => ?_) (fun c1 => ?_)
  · refine g_aload_n hX (pc := 22) dX7_lock_22 0 rfl ?_
    refine g_get hX (pc := 23) fcX7 0 rfl 1 (by decide) q1628 rfl (v := .ref (sr 1)) rfl dX7_lock_23 ?_
    refine g_iload_n hX (pc := 26) dX7_lock_26 2 rfl ?_
    refine g_iald hX (pc := 27) (sp_mem (i := 2) rfl) (v := f1 ky) (vp_in_nI (by omega) (by omega)) (by rw [nI_clamp (by omega)]) dX7_lock_27 ?_
    refine g_iconst hX (pc := 28) (v := (-1)) dX7_lock_28 (by decide) ?_
    refine g_icmp_ne hX (pc := 29) (tgt := 42) dX7_lock_29 rfl (fun c2 => ?_) (fun c2 => ?_)
    · exact absurd c1 c2
    · refine g_aload_n hX (pc := 32) dX7_lock_32 0 rfl ?_
      refine g_get hX (pc := 33) fcX7 0 rfl 2 (by decide) q1630 rfl (v := .ref (sr 2)) rfl dX7_lock_33 ?_
      refine g_iload_n hX (pc := 36) dX7_lock_36 2 rfl ?_
      refine g_dup2_11 hX (pc := 37) dX7_lock_37 rfl rfl ?_
      refine g_iald hX (pc := 38) (sp_mem (i := 3) rfl) (v := f2 ky) (vp_in_nI (by omega) (by omega)) (by rw [nI_clamp (by omega)]) dX7_lock_38 ?_
      refine g_iconst hX (pc := 39) (v := 1) dX7_lock_39 (by decide) ?_
      refine g_iadd hX (pc := 40) dX7_lock_40 ?_
      refine g_iast hX (pc := 41) (f1 := (upd f2 ky ((f2 ky) + 1))) (cs1 := [[(a, ob 6 [.ref (sr 0), .ref (sr 1), .ref (sr 2), .ref (sr 3), .int (S 6 0), .ref (sr 4), .ref (sr 5)])], [(sr 0, iA (aC E 0) 4 f0)], [(sr 1, iA (aC E 0) 4 f1)], [(sr 2, iA (aC E 0) 4 (upd f2 ky ((f2 ky) + 1)))], [(sr 3, iA (aC E 0) 4 f3)], [(sr 4, iA (aC E 0) 4 f4)], [(sr 5, iA (aC E 0) 4 f5)]]) 3 rfl (vp_in_nI (by omega) (by omega)) (by rw [nI_clamp (by omega)]) rfl dX7_lock_41 ?_
      refine g_aload_n hX (pc := 42) dX7_lock_42 0 rfl ?_
      refine g_get hX (pc := 43) fcX7 0 rfl 1 (by decide) q1628 rfl (v := .ref (sr 1)) rfl dX7_lock_43 ?_
      refine g_iload_n hX (pc := 46) dX7_lock_46 2 rfl ?_
      refine g_iload_n hX (pc := 47) dX7_lock_47 1 rfl ?_
      refine g_iast hX (pc := 48) (f1 := (upd f1 ky (nI c))) (cs1 := [[(a, ob 6 [.ref (sr 0), .ref (sr 1), .ref (sr 2), .ref (sr 3), .int (S 6 0), .ref (sr 4), .ref (sr 5)])], [(sr 0, iA (aC E 0) 4 f0)], [(sr 1, iA (aC E 0) 4 (upd f1 ky (nI c)))], [(sr 2, iA (aC E 0) 4 (upd f2 ky ((f2 ky) + 1)))], [(sr 3, iA (aC E 0) 4 f3)], [(sr 4, iA (aC E 0) 4 f4)], [(sr 5, iA (aC E 0) 4 f5)]]) 2 rfl (vp_in_nI (by omega) (by omega)) (by rw [nI_clamp (by omega)]) rfl dX7_lock_48 ?_
      refine g_aload_n hX (pc := 49) dX7_lock_49 0 rfl ?_
      refine g_get hX (pc := 50) fcX7 0 rfl 3 (by decide) q1632 rfl (v := .ref (sr 3)) rfl dX7_lock_50 ?_
      refine g_iload_n hX (pc := 53) dX7_lock_53 2 rfl ?_
      refine g_iload_n hX (pc := 54) dX7_lock_54 3 rfl ?_
      refine g_val (v := if ra = 0 then (-1) else ((S 6 0) + ra)) (pcJ := 68) (st1 := [.int (nI ky), .ref (sr 3)]) (fun hj3 => ?_) ?_
      · refine g_if_ne hX (pc := 55) (tgt := 62) dX7_lock_55 rfl (fun c4 => ?_) (fun c4 => ?_)
        · refine g_aload_n hX (pc := 62) dX7_lock_62 0 rfl ?_
          refine g_get hX (pc := 63) fcX7 0 rfl 4 (by decide) q1634 rfl (v := .int (S 6 0)) rfl dX7_lock_63 ?_
          refine g_iload_n hX (pc := 66) dX7_lock_66 3 rfl ?_
          refine g_iadd hX (pc := 67) dX7_lock_67 ?_
          exact hj3 _ (by rw [if_neg c4])
        · refine g_iconst hX (pc := 58) (v := (-1)) dX7_lock_58 (by decide) ?_
          refine g_goto hX (pc := 59) (tgt := 68) dX7_lock_59 rfl ?_
          exact hj3 _ (by rw [if_pos c4])
      refine g_iast hX (pc := 68) (f1 := (upd f3 ky (if ra = 0 then (-1) else ((S 6 0) + ra)))) (cs1 := [[(a, ob 6 [.ref (sr 0), .ref (sr 1), .ref (sr 2), .ref (sr 3), .int (S 6 0), .ref (sr 4), .ref (sr 5)])], [(sr 0, iA (aC E 0) 4 f0)], [(sr 1, iA (aC E 0) 4 (upd f1 ky (nI c)))], [(sr 2, iA (aC E 0) 4 (upd f2 ky ((f2 ky) + 1)))], [(sr 3, iA (aC E 0) 4 (upd f3 ky (if ra = 0 then (-1) else ((S 6 0) + ra))))], [(sr 4, iA (aC E 0) 4 f4)], [(sr 5, iA (aC E 0) 4 f5)]]) 4 rfl (vp_in_nI (by omega) (by omega)) (by rw [nI_clamp (by omega)]) rfl dX7_lock_68 ?_
      refine g_aload_n hX (pc := 69) dX7_lock_69 0 rfl ?_
      refine g_get hX (pc := 70) fcX7 0 rfl 2 (by decide) q1630 rfl (v := .ref (sr 2)) rfl dX7_lock_70 ?_
      refine g_iload_n hX (pc := 73) dX7_lock_73 2 rfl ?_
      refine g_iald hX (pc := 74) (sp_mem (i := 3) rfl) (v := (upd f2 ky ((f2 ky) + 1)) ky) (vp_in_nI (by omega) (by omega)) (by rw [nI_clamp (by omega)]) dX7_lock_74 ?_
      refine g_pk [0, 0, 0, 0, 0, 0, 0] rfl ?_
      refine g_fl (cs1 := [[(a, ob 6 [.ref (sr 0), .ref (sr 1), .ref (sr 2), .ref (sr 3), .int (S 6 0), .ref (sr 4), .ref (sr 5)]), (sr 0, iA (aC E 0) 4 f0), (sr 1, iA (aC E 0) 4 (upd f1 ky (nI c))), (sr 2, iA (aC E 0) 4 (upd f2 ky ((f2 ky) + 1))), (sr 3, iA (aC E 0) 4 (upd f3 ky (if ra = 0 then (-1) else ((S 6 0) + ra)))), (sr 4, iA (aC E 0) 4 f4), (sr 5, iA (aC E 0) 4 f5)]]) rfl ?_
      refine g_iret hX (pc := 75) hR ?_ (Nat.le_of_ble_eq_true rfl) (Nat.le_of_ble_eq_true rfl) dX7_lock_75
      have hx : f2 ky + 1 = sFen S ky := by rw [sFen, if_pos (by rw [← e1]; exact c2), e2]
      rw [pk_us, hx]
      have h0 := s6_u2 hS ky (sFen S ky)
      have h6 := s6_u3 (s6_u1 h0 ky (nI c)) ky (if ra = 0 then (-1) else S 6 0 + ra)
      rw [show sLock S ky (nI c) ra = (up2 (up2 (up2 S 2 ky (sFen S ky)) 1 ky (nI c)) 3 ky (if ra = 0 then (-1) else S 6 0 + ra), sFen S ky) from if_neg (by rw [← e1]; exact fun z => z.1 c1)]
      exact ⟨_, IsMR.mk6 h6 rfl, rfl, rfl⟩
  · refine g_aload_n hX (pc := 10) dX7_lock_10 0 rfl ?_
    refine g_get hX (pc := 11) fcX7 0 rfl 1 (by decide) q1628 rfl (v := .ref (sr 1)) rfl dX7_lock_11 ?_
    refine g_iload_n hX (pc := 14) dX7_lock_14 2 rfl ?_
    refine g_iald hX (pc := 15) (sp_mem (i := 2) rfl) (v := f1 ky) (vp_in_nI (by omega) (by omega)) (by rw [nI_clamp (by omega)]) dX7_lock_15 ?_
    refine g_iload_n hX (pc := 16) dX7_lock_16 1 rfl ?_
    refine g_icmp_eq hX (pc := 17) (tgt := 22) dX7_lock_17 rfl (fun c5 => ?_) (fun c5 => ?_)
    · refine g_aload_n hX (pc := 22) dX7_lock_22 0 rfl ?_
      refine g_get hX (pc := 23) fcX7 0 rfl 1 (by decide) q1628 rfl (v := .ref (sr 1)) rfl dX7_lock_23 ?_
      refine g_iload_n hX (pc := 26) dX7_lock_26 2 rfl ?_
      refine g_iald hX (pc := 27) (sp_mem (i := 2) rfl) (v := f1 ky) (vp_in_nI (by omega) (by omega)) (by rw [nI_clamp (by omega)]) dX7_lock_27 ?_
      refine g_iconst hX (pc := 28) (v := (-1)) dX7_lock_28 (by decide) ?_
      refine g_icmp_ne hX (pc := 29) (tgt := 42) dX7_lock_29 rfl (fun c6 => ?_) (fun c6 => ?_)
      · refine g_aload_n hX (pc := 42) dX7_lock_42 0 rfl ?_
        refine g_get hX (pc := 43) fcX7 0 rfl 1 (by decide) q1628 rfl (v := .ref (sr 1)) rfl dX7_lock_43 ?_
        refine g_iload_n hX (pc := 46) dX7_lock_46 2 rfl ?_
        refine g_iload_n hX (pc := 47) dX7_lock_47 1 rfl ?_
        refine g_iast hX (pc := 48) (f1 := (upd f1 ky (nI c))) (cs1 := [[(a, ob 6 [.ref (sr 0), .ref (sr 1), .ref (sr 2), .ref (sr 3), .int (S 6 0), .ref (sr 4), .ref (sr 5)])], [(sr 0, iA (aC E 0) 4 f0)], [(sr 1, iA (aC E 0) 4 (upd f1 ky (nI c)))], [(sr 2, iA (aC E 0) 4 f2)], [(sr 3, iA (aC E 0) 4 f3)], [(sr 4, iA (aC E 0) 4 f4)], [(sr 5, iA (aC E 0) 4 f5)]]) 2 rfl (vp_in_nI (by omega) (by omega)) (by rw [nI_clamp (by omega)]) rfl dX7_lock_48 ?_
        refine g_aload_n hX (pc := 49) dX7_lock_49 0 rfl ?_
        refine g_get hX (pc := 50) fcX7 0 rfl 3 (by decide) q1632 rfl (v := .ref (sr 3)) rfl dX7_lock_50 ?_
        refine g_iload_n hX (pc := 53) dX7_lock_53 2 rfl ?_
        refine g_iload_n hX (pc := 54) dX7_lock_54 3 rfl ?_
        refine g_val (v := if ra = 0 then (-1) else ((S 6 0) + ra)) (pcJ := 68) (st1 := [.int (nI ky), .ref (sr 3)]) (fun hj7 => ?_) ?_
        · refine g_if_ne hX (pc := 55) (tgt := 62) dX7_lock_55 rfl (fun c8 => ?_) (fun c8 => ?_)
          · refine g_aload_n hX (pc := 62) dX7_lock_62 0 rfl ?_
            refine g_get hX (pc := 63) fcX7 0 rfl 4 (by decide) q1634 rfl (v := .int (S 6 0)) rfl dX7_lock_63 ?_
            refine g_iload_n hX (pc := 66) dX7_lock_66 3 rfl ?_
            refine g_iadd hX (pc := 67) dX7_lock_67 ?_
            exact hj7 _ (by rw [if_neg c8])
          · refine g_iconst hX (pc := 58) (v := (-1)) dX7_lock_58 (by decide) ?_
            refine g_goto hX (pc := 59) (tgt := 68) dX7_lock_59 rfl ?_
            exact hj7 _ (by rw [if_pos c8])
        refine g_iast hX (pc := 68) (f1 := (upd f3 ky (if ra = 0 then (-1) else ((S 6 0) + ra)))) (cs1 := [[(a, ob 6 [.ref (sr 0), .ref (sr 1), .ref (sr 2), .ref (sr 3), .int (S 6 0), .ref (sr 4), .ref (sr 5)])], [(sr 0, iA (aC E 0) 4 f0)], [(sr 1, iA (aC E 0) 4 (upd f1 ky (nI c)))], [(sr 2, iA (aC E 0) 4 f2)], [(sr 3, iA (aC E 0) 4 (upd f3 ky (if ra = 0 then (-1) else ((S 6 0) + ra))))], [(sr 4, iA (aC E 0) 4 f4)], [(sr 5, iA (aC E 0) 4 f5)]]) 4 rfl (vp_in_nI (by omega) (by omega)) (by rw [nI_clamp (by omega)]) rfl dX7_lock_68 ?_
        refine g_aload_n hX (pc := 69) dX7_lock_69 0 rfl ?_
        refine g_get hX (pc := 70) fcX7 0 rfl 2 (by decide) q1630 rfl (v := .ref (sr 2)) rfl dX7_lock_70 ?_
        refine g_iload_n hX (pc := 73) dX7_lock_73 2 rfl ?_
        refine g_iald hX (pc := 74) (sp_mem (i := 3) rfl) (v := f2 ky) (vp_in_nI (by omega) (by omega)) (by rw [nI_clamp (by omega)]) dX7_lock_74 ?_
        refine g_pk [0, 0, 0, 0, 0, 0, 0] rfl ?_
        refine g_fl (cs1 := [[(a, ob 6 [.ref (sr 0), .ref (sr 1), .ref (sr 2), .ref (sr 3), .int (S 6 0), .ref (sr 4), .ref (sr 5)]), (sr 0, iA (aC E 0) 4 f0), (sr 1, iA (aC E 0) 4 (upd f1 ky (nI c))), (sr 2, iA (aC E 0) 4 f2), (sr 3, iA (aC E 0) 4 (upd f3 ky (if ra = 0 then (-1) else ((S 6 0) + ra)))), (sr 4, iA (aC E 0) 4 f4), (sr 5, iA (aC E 0) 4 f5)]]) rfl ?_
        refine g_iret hX (pc := 75) hR ?_ (Nat.le_of_ble_eq_true rfl) (Nat.le_of_ble_eq_true rfl) dX7_lock_75
        have hx : sFen S ky = S 2 ky := by rw [sFen, if_neg (by rw [← e1]; exact c6)]; exact Int32.add_zero _
        rw [e2, ← hx]
        have h0 := s6_u2n hS ky (sFen S ky) hx
        have h6 := s6_u3 (s6_u1 h0 ky (nI c)) ky (if ra = 0 then (-1) else S 6 0 + ra)
        rw [show sLock S ky (nI c) ra = (up2 (up2 (up2 S 2 ky (sFen S ky)) 1 ky (nI c)) 3 ky (if ra = 0 then (-1) else S 6 0 + ra), sFen S ky) from if_neg (by rw [← e1]; exact fun z => z.2 c5)]
        exact ⟨_, IsMR.mk6 h6 rfl, rfl, rfl⟩
      · exact absurd c6 c1
    · refine g_iconst hX (pc := 20) (v := 0) dX7_lock_20 (by decide) ?_
      refine g_pk [0, 0, 0, 0, 0, 0, 0] rfl ?_
      refine g_fl (cs1 := [[(a, ob 6 [.ref (sr 0), .ref (sr 1), .ref (sr 2), .ref (sr 3), .int (S 6 0), .ref (sr 4), .ref (sr 5)]), (sr 0, iA (aC E 0) 4 f0), (sr 1, iA (aC E 0) 4 f1), (sr 2, iA (aC E 0) 4 f2), (sr 3, iA (aC E 0) 4 f3), (sr 4, iA (aC E 0) 4 f4), (sr 5, iA (aC E 0) 4 f5)]]) rfl ?_
      refine g_iret hX (pc := 21) hR ?_ (Nat.le_of_ble_eq_true rfl) (Nat.le_of_ble_eq_true rfl) dX7_lock_21
      rw [show sLock S ky (nI c) ra = (S, 0) from if_pos (by rw [← e1]; exact ⟨c1, c5⟩)]
      exact ⟨_, IsMR.mk6 hS rfl, rfl, rfl⟩

/-- the ends that are over, of the first i keys -/
def paS (S : PS) (m : Int32) (i : Nat) : PS := fun j k => if (j = 1 ∨ j = 3) ∧ k < i ∧ ¬ S 3 k = (-1) ∧ S 3 k ≤ S 6 0 + m then (-1) else if j = 6 ∧ k = 0 then S 6 0 + m else S j k
theorem paS_0 {S : PS} {m : Int32} {f0 f1 f2 f3 f4 f5 : Nat → Int32} (h : S6 S f0 f1 f2 f3 f4 f5) : S6 (paS S m 0) f0 f1 f2 f3 f4 f5 := by
  intro q hq
  obtain ⟨e0, e1, e2, e3, e4, e5⟩ := h q hq
  refine ⟨?_, ?_, ?_, ?_, ?_, ?_⟩ <;> simp [paS, e0, e1, e2, e3, e4, e5]
theorem paS_6 {S : PS} {m : Int32} {i : Nat} : paS S m i 6 0 = S 6 0 + m := by simp [paS]
theorem paS_3 {S : PS} {m : Int32} {i : Nat} : paS S m i 3 i = S 3 i := by simp [paS]
theorem paS_n {S : PS} {m : Int32} {i : Nat} (h : ¬ (¬ S 3 i = (-1) ∧ S 3 i ≤ S 6 0 + m)) : paS S m (i + 1) = paS S m i := by
  funext j k
  unfold paS
  by_cases hk : k = i
  · subst hk
    have e1 : ¬ ((j = 1 ∨ j = 3) ∧ k < k + 1 ∧ ¬ S 3 k = (-1) ∧ S 3 k ≤ S 6 0 + m) := fun z => h z.2.2
    have e2 : ¬ ((j = 1 ∨ j = 3) ∧ k < k ∧ ¬ S 3 k = (-1) ∧ S 3 k ≤ S 6 0 + m) := fun z => h z.2.2
    rw [if_neg e1, if_neg e2]
  · have e : k < i + 1 ↔ k < i := by omega
    simp only [e]
theorem paS_p {S : PS} {m : Int32} {i : Nat} (h : ¬ S 3 i = (-1) ∧ S 3 i ≤ S 6 0 + m) : up2 (up2 (paS S m i) 1 i (-1)) 3 i (-1) = paS S m (i + 1) := by
  funext j k
  unfold up2
  by_cases h3 : j = 3 ∧ k = i
  · obtain ⟨rfl, rfl⟩ := h3
    rw [if_pos ⟨rfl, rfl⟩]
    unfold paS
    rw [if_pos ⟨Or.inr rfl, by omega, h⟩]
  · rw [if_neg h3]
    by_cases h1 : j = 1 ∧ k = i
    · obtain ⟨rfl, rfl⟩ := h1
      rw [if_pos ⟨rfl, rfl⟩]
      unfold paS
      rw [if_pos ⟨Or.inl rfl, by omega, h⟩]
    · rw [if_neg h1]
      unfold paS
      have e : ((j = 1 ∨ j = 3) ∧ k < i ∧ ¬ S 3 k = (-1) ∧ S 3 k ≤ S 6 0 + m) ↔ ((j = 1 ∨ j = 3) ∧ k < i + 1 ∧ ¬ S 3 k = (-1) ∧ S 3 k ≤ S 6 0 + m) := by
        constructor
        · rintro ⟨a, b, c⟩; exact ⟨a, by omega, c⟩
        · rintro ⟨a, b, c⟩; exact ⟨a, by omega, c⟩
      simp only [e]
theorem paS_4 {S : PS} {m : Int32} {f0 f1 f2 f3 f4 f5 : Nat → Int32} (h : S6 (paS S m 4) f0 f1 f2 f3 f4 f5) : S6 (sPass S m).1 f0 f1 f2 f3 f4 f5 := by
  intro q hq
  obtain ⟨e0, e1, e2, e3, e4, e5⟩ := h q hq
  refine ⟨?_, ?_, ?_, ?_, ?_, ?_⟩
  · rw [e0]; simp [paS, sPass]
  · rw [e1]; simp [paS, sPass, hq]
  · rw [e2]; simp [paS, sPass]
  · rw [e3]; simp [paS, sPass, hq]
  · rw [e4]; simp [paS, sPass]
  · rw [e5]; simp [paS, sPass]

set_option maxHeartbeats 4000000 in
theorem mt_MS_doesNow (E : EE) (l : Launch) (a : Nat) (sr : Nat → Nat) (S : PS) (w : va_W) (rq : Nat) (r : PR) (fz : va_W) (hw : IsMR E a sr S w) (hr : ((rq, iA (aC E 0) 5 (rqF r)) ∈ fz)) (hc : (rC r < 4)) (hkd : (rK r < 6)) (hk : (rY r < 4)) : Mt E l yX7_doesNow cX7_doesNow 5 (some .int) 2 0 0 24 [.ref a, .ref rq] [w, fz] (fun (v_ : Option Value) (cs_ : List va_W) => ∃ (w1 : va_W), IsMR E a sr (Prod.fst (sDo S (nI (rC r)) (rK r) (rY r) (rA r) (rB r))) w1 ∧ v_ = some (.int (Prod.snd (sDo S (nI (rC r)) (rK r) (rY r) (rA r) (rB r)))) ∧ cs_ = [w1, fz]) := by
  refine Mt.of (by decide) (Nat.le_of_ble_eq_true rfl) (fun X hX hR hin => ?_)
  refine g_lv1 (lv1 := [(0, .ref a), (1, .ref rq)]) rfl ?_
  obtain ⟨f1, f2, f3, f4, f5, f6, hS7, rfl⟩ := hw
  refine g_fl (cs1 := [[(a, ob 6 [.ref (sr 0), .ref (sr 1), .ref (sr 2), .ref (sr 3), .int (S 6 0), .ref (sr 4), .ref (sr 5)])], [(sr 0, iA (aC E 0) 4 f1)], [(sr 1, iA (aC E 0) 4 f2)], [(sr 2, iA (aC E 0) 4 f3)], [(sr 3, iA (aC E 0) 4 f4)], [(sr 4, iA (aC E 0) 4 f5)], [(sr 5, iA (aC E 0) 4 f6)], fz]) rfl ?_
  obtain ⟨e0, e1, e2, e3, e4, e5⟩ := hS7 (rY r) hk
  refine g_aload_n hX (pc := 0) dX7_doesNow_0 1 rfl ?_
  refine g_iconst hX (pc := 1) (v := 2) dX7_doesNow_1 (by decide) ?_
  refine g_iald hX (pc := 2) (sp_in 7 rfl hr) (v := nI (rY r)) (by unfold vp_in; decide) rfl dX7_doesNow_2 ?_
  refine g_istore_n hX (pc := 3) (lv1 := [(2, .int (nI (rY r))), (0, .ref a), (1, .ref rq)]) dX7_doesNow_3 (by decide) rfl ?_
  refine g_aload_n hX (pc := 4) dX7_doesNow_4 1 rfl ?_
  refine g_get hX (pc := 5) fcX7 0 rfl 0 (by decide) q1626 rfl (v := .ref (sr 0)) rfl dX7_doesNow_5 ?_
  refine g_iload_n hX (pc := 8) dX7_doesNow_8 0 rfl ?_
  refine g_iald hX (pc := 9) (sp_mem (i := 1) rfl) (v := S 0 (rY r)) (vp_in_nI (by omega) (by omega)) (by rw [nI_clamp (by omega)]; exact e0) dX7_doesNow_9 ?_
  refine g_istore_n hX (pc := 10) (lv1 := [(3, .int (S 0 (rY r))), (2, .int (nI (rY r))), (0, .ref a), (1, .ref rq)]) dX7_doesNow_10 (by decide) rfl ?_
  refine g_aload_n hX (pc := 11) dX7_doesNow_11 3 rfl ?_
  refine g_iconst hX (pc := 12) (v := 1) dX7_doesNow_12 (by decide) ?_
  refine g_iald hX (pc := 13) (sp_in 7 rfl hr) (v := nI (rK r)) (by unfold vp_in; decide) rfl dX7_doesNow_13 ?_
  rcases (show (rK r) = 0 ∨ (rK r) = 1 ∨ (rK r) = 2 ∨ (rK r) = 3 ∨ (rK r) = 4 ∨ ((rK r) < 0 ∨ 4 < (rK r)) by omega) with h14_0 | h14_1 | h14_2 | h14_3 | h14_4 | h14_d
  · refine g_tableIn hX (pc := 14) (tgt := 48) (off := 34) dX7_doesNow_14 (by rw [h14_0]; decide) (by rw [h14_0]; decide) (by rw [h14_0]; rfl) rfl ?_
    refine g_aload_n hX (pc := 48) dX7_doesNow_48 2 rfl ?_
    refine g_get hX (pc := 49) fcX7 0 rfl 0 (by decide) q1626 rfl (v := .ref (sr 0)) rfl dX7_doesNow_49 ?_
    refine g_iload_n hX (pc := 52) dX7_doesNow_52 1 rfl ?_
    refine g_aload_n hX (pc := 53) dX7_doesNow_53 3 rfl ?_
    refine g_iconst hX (pc := 54) (v := 3) dX7_doesNow_54 (by decide) ?_
    refine g_iald hX (pc := 55) (sp_in 7 rfl hr) (v := rA r) (by unfold vp_in; decide) rfl dX7_doesNow_55 ?_
    refine g_iast hX (pc := 56) (f1 := (upd f1 (rY r) (rA r))) (cs1 := [[(a, ob 6 [.ref (sr 0), .ref (sr 1), .ref (sr 2), .ref (sr 3), .int (S 6 0), .ref (sr 4), .ref (sr 5)])], [(sr 0, iA (aC E 0) 4 (upd f1 (rY r) (rA r)))], [(sr 1, iA (aC E 0) 4 f2)], [(sr 2, iA (aC E 0) 4 f3)], [(sr 3, iA (aC E 0) 4 f4)], [(sr 4, iA (aC E 0) 4 f5)], [(sr 5, iA (aC E 0) 4 f6)], fz]) 1 rfl (vp_in_nI (by omega) (by omega)) (by rw [nI_clamp (by omega)]) rfl dX7_doesNow_56 ?_
    refine g_iload_n hX (pc := 57) dX7_doesNow_57 0 rfl ?_
    refine g_pk [0, 0, 0, 0, 0, 0, 0] rfl ?_
    refine g_fl (cs1 := [[(a, ob 6 [.ref (sr 0), .ref (sr 1), .ref (sr 2), .ref (sr 3), .int (S 6 0), .ref (sr 4), .ref (sr 5)]), (sr 0, iA (aC E 0) 4 (upd f1 (rY r) (rA r))), (sr 1, iA (aC E 0) 4 f2), (sr 2, iA (aC E 0) 4 f3), (sr 3, iA (aC E 0) 4 f4), (sr 4, iA (aC E 0) 4 f5), (sr 5, iA (aC E 0) 4 f6)], fz]) rfl ?_
    refine g_iret hX (pc := 58) hR ?_ (by omega) (by omega) dX7_doesNow_58
    have e : sDo S (nI (rC r)) (rK r) (rY r) (rA r) (rB r) = sVal S (rK r) (rY r) (rA r) (rB r) := by unfold sDo; rw [if_neg (by omega), if_neg (by omega), if_neg (by omega)]
    rw [e]
    have eb : rqBeh (rK r) (rA r) (rB r) (S 0 (rY r)) = rA r := by unfold rqBeh; rw [if_pos h14_0]
    have et : rqTold (rK r) (rA r) (S 0 (rY r)) = S 0 (rY r) := by unfold rqTold; rw [if_neg (by omega)]
    unfold sVal
    rw [eb, et]
    exact ⟨_, IsMR.mk6 (s6_u0 hS7 (rY r) (rA r)) rfl, rfl, rfl⟩
  · refine g_tableIn hX (pc := 14) (tgt := 59) (off := 45) dX7_doesNow_14 (by rw [h14_1]; decide) (by rw [h14_1]; decide) (by rw [h14_1]; rfl) rfl ?_
    refine g_iload_n hX (pc := 59) dX7_doesNow_59 0 rfl ?_
    refine g_pk [0, 0, 0, 0, 0, 0, 0] rfl ?_
    refine g_fl (cs1 := [[(a, ob 6 [.ref (sr 0), .ref (sr 1), .ref (sr 2), .ref (sr 3), .int (S 6 0), .ref (sr 4), .ref (sr 5)]), (sr 0, iA (aC E 0) 4 f1), (sr 1, iA (aC E 0) 4 f2), (sr 2, iA (aC E 0) 4 f3), (sr 3, iA (aC E 0) 4 f4), (sr 4, iA (aC E 0) 4 f5), (sr 5, iA (aC E 0) 4 f6)], fz]) rfl ?_
    refine g_iret hX (pc := 60) hR ?_ (by omega) (by omega) dX7_doesNow_60
    have e : sDo S (nI (rC r)) (rK r) (rY r) (rA r) (rB r) = sVal S (rK r) (rY r) (rA r) (rB r) := by unfold sDo; rw [if_neg (by omega), if_neg (by omega), if_neg (by omega)]
    rw [e]
    have eb : rqBeh (rK r) (rA r) (rB r) (S 0 (rY r)) = S 0 (rY r) := by unfold rqBeh; rw [if_neg (by omega), if_neg (by omega)]
    have et : rqTold (rK r) (rA r) (S 0 (rY r)) = S 0 (rY r) := by unfold rqTold; rw [if_neg (by omega)]
    unfold sVal
    rw [eb, et]
    exact ⟨_, IsMR.mk6 (s6_u0n hS7 (rY r) _ rfl) rfl, rfl, rfl⟩
  · refine g_tableIn hX (pc := 14) (tgt := 61) (off := 47) dX7_doesNow_14 (by rw [h14_2]; decide) (by rw [h14_2]; decide) (by rw [h14_2]; rfl) rfl ?_
    refine g_iload_n hX (pc := 61) dX7_doesNow_61 0 rfl ?_
    refine g_aload_n hX (pc := 62) dX7_doesNow_62 3 rfl ?_
    refine g_iconst hX (pc := 63) (v := 3) dX7_doesNow_63 (by decide) ?_
    refine g_iald hX (pc := 64) (sp_in 7 rfl hr) (v := rA r) (by unfold vp_in; decide) rfl dX7_doesNow_64 ?_
    refine g_icmp_eq hX (pc := 65) (tgt := 70) dX7_doesNow_65 rfl (fun c8 => ?_) (fun c8 => ?_)
    · refine g_aload_n hX (pc := 70) dX7_doesNow_70 2 rfl ?_
      refine g_get hX (pc := 71) fcX7 0 rfl 0 (by decide) q1626 rfl (v := .ref (sr 0)) rfl dX7_doesNow_71 ?_
      refine g_iload_n hX (pc := 74) dX7_doesNow_74 1 rfl ?_
      refine g_aload_n hX (pc := 75) dX7_doesNow_75 3 rfl ?_
      refine g_iconst hX (pc := 76) (v := 4) dX7_doesNow_76 (by decide) ?_
      refine g_iald hX (pc := 77) (sp_in 7 rfl hr) (v := rB r) (by unfold vp_in; decide) rfl dX7_doesNow_77 ?_
      refine g_iast hX (pc := 78) (f1 := (upd f1 (rY r) (rB r))) (cs1 := [[(a, ob 6 [.ref (sr 0), .ref (sr 1), .ref (sr 2), .ref (sr 3), .int (S 6 0), .ref (sr 4), .ref (sr 5)])], [(sr 0, iA (aC E 0) 4 (upd f1 (rY r) (rB r)))], [(sr 1, iA (aC E 0) 4 f2)], [(sr 2, iA (aC E 0) 4 f3)], [(sr 3, iA (aC E 0) 4 f4)], [(sr 4, iA (aC E 0) 4 f5)], [(sr 5, iA (aC E 0) 4 f6)], fz]) 1 rfl (vp_in_nI (by omega) (by omega)) (by rw [nI_clamp (by omega)]) rfl dX7_doesNow_78 ?_
      refine g_iconst hX (pc := 79) (v := 1) dX7_doesNow_79 (by decide) ?_
      refine g_pk [0, 0, 0, 0, 0, 0, 0] rfl ?_
      refine g_fl (cs1 := [[(a, ob 6 [.ref (sr 0), .ref (sr 1), .ref (sr 2), .ref (sr 3), .int (S 6 0), .ref (sr 4), .ref (sr 5)]), (sr 0, iA (aC E 0) 4 (upd f1 (rY r) (rB r))), (sr 1, iA (aC E 0) 4 f2), (sr 2, iA (aC E 0) 4 f3), (sr 3, iA (aC E 0) 4 f4), (sr 4, iA (aC E 0) 4 f5), (sr 5, iA (aC E 0) 4 f6)], fz]) rfl ?_
      refine g_iret hX (pc := 80) hR ?_ (by omega) (by omega) dX7_doesNow_80
      have e : sDo S (nI (rC r)) (rK r) (rY r) (rA r) (rB r) = sVal S (rK r) (rY r) (rA r) (rB r) := by unfold sDo; rw [if_neg (by omega), if_neg (by omega), if_neg (by omega)]
      rw [e]
      have eb : rqBeh (rK r) (rA r) (rB r) (S 0 (rY r)) = rB r := by unfold rqBeh; rw [if_neg (by omega), if_pos h14_2, if_pos c8]
      have et : rqTold (rK r) (rA r) (S 0 (rY r)) = 1 := by unfold rqTold; rw [if_pos h14_2, if_pos c8]
      unfold sVal
      rw [eb, et]
      exact ⟨_, IsMR.mk6 (s6_u0 hS7 (rY r) (rB r)) rfl, rfl, rfl⟩
    · refine g_iconst hX (pc := 68) (v := 0) dX7_doesNow_68 (by decide) ?_
      refine g_pk [0, 0, 0, 0, 0, 0, 0] rfl ?_
      refine g_fl (cs1 := [[(a, ob 6 [.ref (sr 0), .ref (sr 1), .ref (sr 2), .ref (sr 3), .int (S 6 0), .ref (sr 4), .ref (sr 5)]), (sr 0, iA (aC E 0) 4 f1), (sr 1, iA (aC E 0) 4 f2), (sr 2, iA (aC E 0) 4 f3), (sr 3, iA (aC E 0) 4 f4), (sr 4, iA (aC E 0) 4 f5), (sr 5, iA (aC E 0) 4 f6)], fz]) rfl ?_
      refine g_iret hX (pc := 69) hR ?_ (by omega) (by omega) dX7_doesNow_69
      have e : sDo S (nI (rC r)) (rK r) (rY r) (rA r) (rB r) = sVal S (rK r) (rY r) (rA r) (rB r) := by unfold sDo; rw [if_neg (by omega), if_neg (by omega), if_neg (by omega)]
      rw [e]
      have eb : rqBeh (rK r) (rA r) (rB r) (S 0 (rY r)) = S 0 (rY r) := by unfold rqBeh; rw [if_neg (by omega), if_pos h14_2, if_neg c8]
      have et : rqTold (rK r) (rA r) (S 0 (rY r)) = 0 := by unfold rqTold; rw [if_pos h14_2, if_neg c8]
      unfold sVal
      rw [eb, et]
      exact ⟨_, IsMR.mk6 (s6_u0n hS7 (rY r) _ rfl) rfl, rfl, rfl⟩
  · refine g_tableIn hX (pc := 14) (tgt := 81) (off := 67) dX7_doesNow_14 (by rw [h14_3]; decide) (by rw [h14_3]; decide) (by rw [h14_3]; rfl) rfl ?_
    refine g_aload_n hX (pc := 81) dX7_doesNow_81 2 rfl ?_
    refine g_aload_n hX (pc := 82) dX7_doesNow_82 3 rfl ?_
    refine g_iconst hX (pc := 83) (v := 0) dX7_doesNow_83 (by decide) ?_
    refine g_iald hX (pc := 84) (sp_in 7 rfl hr) (v := nI (rC r)) (by unfold vp_in; decide) rfl dX7_doesNow_84 ?_
    refine g_iload_n hX (pc := 85) dX7_doesNow_85 1 rfl ?_
    refine g_aload_n hX (pc := 86) dX7_doesNow_86 3 rfl ?_
    refine g_iconst hX (pc := 87) (v := 3) dX7_doesNow_87 (by decide) ?_
    refine g_iald hX (pc := 88) (sp_in 7 rfl hr) (v := rA r) (by unfold vp_in; decide) rfl dX7_doesNow_88 ?_
    refine g_pk [0, 0, 0, 0, 0, 0, 0] rfl ?_
    refine g_fl (cs1 := [[(a, ob 6 [.ref (sr 0), .ref (sr 1), .ref (sr 2), .ref (sr 3), .int (S 6 0), .ref (sr 4), .ref (sr 5)]), (sr 0, iA (aC E 0) 4 f1), (sr 1, iA (aC E 0) 4 f2), (sr 2, iA (aC E 0) 4 f3), (sr 3, iA (aC E 0) 4 f4), (sr 4, iA (aC E 0) 4 f5), (sr 5, iA (aC E 0) 4 f6)], fz]) rfl ?_
    have hp9 : IsMR E a sr S [(a, ob 6 [.ref (sr 0), .ref (sr 1), .ref (sr 2), .ref (sr 3), .int (S 6 0), .ref (sr 4), .ref (sr 5)]), (sr 0, iA (aC E 0) 4 f1), (sr 1, iA (aC E 0) 4 f2), (sr 2, iA (aC E 0) 4 f3), (sr 3, iA (aC E 0) 4 f4), (sr 4, iA (aC E 0) 4 f5), (sr 5, iA (aC E 0) 4 f6)] := IsMR.mk6 hS7 rfl
    generalize [(a, ob 6 [.ref (sr 0), .ref (sr 1), .ref (sr 2), .ref (sr 3), .int (S 6 0), .ref (sr 4), .ref (sr 5)]), (sr 0, iA (aC E 0) 4 f1), (sr 1, iA (aC E 0) 4 f2), (sr 2, iA (aC E 0) 4 f3), (sr 3, iA (aC E 0) 4 f4), (sr 4, iA (aC E 0) 4 f5), (sr 5, iA (aC E 0) 4 f6)] = wp10 at hp9 ⊢
    obtain ⟨fs11, hm12⟩ := IsMR.head hp9
    refine g_callV hX (pc := 89) kX7_lock (mt_MS_lock E l a sr S wp10 (rC r) (rY r) (rA r) hp9 (hk)) q1984 fcX7 (sp_in 0 rfl hm12) [0] rfl rfl rfl (Nat.le_of_ble_eq_true rfl) (Nat.le_of_ble_eq_true rfl) (Nat.le_of_ble_eq_true rfl) (by omega) (by omega) dX7_doesNow_89 (fun v w1 hp => ?_)
    obtain ⟨w113, h14, rfl, rfl⟩ := hp
    refine g_nrm (cs1 := [w113, fz]) (st1 := [.int (Prod.snd (sLock S (rY r) (nI (rC r)) (rA r)))]) rfl rfl ?_
    refine g_iret hX (pc := 92) hR ?_ (by omega) (by omega) dX7_doesNow_92
    rw [show sDo S (nI (rC r)) (rK r) (rY r) (rA r) (rB r) = sLock S (rY r) (nI (rC r)) (rA r) from if_pos h14_3]
    exact ⟨_, h14, rfl, rfl⟩
  · refine g_tableIn hX (pc := 14) (tgt := 93) (off := 79) dX7_doesNow_14 (by rw [h14_4]; decide) (by rw [h14_4]; decide) (by rw [h14_4]; rfl) rfl ?_
    refine g_aload_n hX (pc := 93) dX7_doesNow_93 2 rfl ?_
    refine g_get hX (pc := 94) fcX7 0 rfl 1 (by decide) q1628 rfl (v := .ref (sr 1)) rfl dX7_doesNow_94 ?_
    refine g_iload_n hX (pc := 97) dX7_doesNow_97 1 rfl ?_
    refine g_iald hX (pc := 98) (sp_mem (i := 2) rfl) (v := f2 (rY r)) (vp_in_nI (by omega) (by omega)) (by rw [nI_clamp (by omega)]) dX7_doesNow_98 ?_
    refine g_aload_n hX (pc := 99) dX7_doesNow_99 3 rfl ?_
    refine g_iconst hX (pc := 100) (v := 0) dX7_doesNow_100 (by decide) ?_
    refine g_iald hX (pc := 101) (sp_in 7 rfl hr) (v := nI (rC r)) (by unfold vp_in; decide) rfl dX7_doesNow_101 ?_
    refine g_icmp_eq hX (pc := 102) (tgt := 107) dX7_doesNow_102 rfl (fun c15 => ?_) (fun c15 => ?_)
    · refine g_aload_n hX (pc := 107) dX7_doesNow_107 2 rfl ?_
      refine g_iload_n hX (pc := 108) dX7_doesNow_108 1 rfl ?_
      refine g_pk [0, 0, 0, 0, 0, 0, 0] rfl ?_
      refine g_fl (cs1 := [[(a, ob 6 [.ref (sr 0), .ref (sr 1), .ref (sr 2), .ref (sr 3), .int (S 6 0), .ref (sr 4), .ref (sr 5)]), (sr 0, iA (aC E 0) 4 f1), (sr 1, iA (aC E 0) 4 f2), (sr 2, iA (aC E 0) 4 f3), (sr 3, iA (aC E 0) 4 f4), (sr 4, iA (aC E 0) 4 f5), (sr 5, iA (aC E 0) 4 f6)], fz]) rfl ?_
      have hp16 : IsMR E a sr S [(a, ob 6 [.ref (sr 0), .ref (sr 1), .ref (sr 2), .ref (sr 3), .int (S 6 0), .ref (sr 4), .ref (sr 5)]), (sr 0, iA (aC E 0) 4 f1), (sr 1, iA (aC E 0) 4 f2), (sr 2, iA (aC E 0) 4 f3), (sr 3, iA (aC E 0) 4 f4), (sr 4, iA (aC E 0) 4 f5), (sr 5, iA (aC E 0) 4 f6)] := IsMR.mk6 hS7 rfl
      generalize [(a, ob 6 [.ref (sr 0), .ref (sr 1), .ref (sr 2), .ref (sr 3), .int (S 6 0), .ref (sr 4), .ref (sr 5)]), (sr 0, iA (aC E 0) 4 f1), (sr 1, iA (aC E 0) 4 f2), (sr 2, iA (aC E 0) 4 f3), (sr 3, iA (aC E 0) 4 f4), (sr 4, iA (aC E 0) 4 f5), (sr 5, iA (aC E 0) 4 f6)] = wp17 at hp16 ⊢
      obtain ⟨fs18, hm19⟩ := IsMR.head hp16
      refine g_callV hX (pc := 109) kX7_open (mt_MS_open E l a sr S wp17 (rY r) hp16 (hk)) q1988 fcX7 (sp_in 0 rfl hm19) [0] rfl rfl rfl (Nat.le_of_ble_eq_true rfl) (Nat.le_of_ble_eq_true rfl) (Nat.le_of_ble_eq_true rfl) (by omega) (by omega) dX7_doesNow_109 (fun v w1 hp => ?_)
      obtain ⟨w120, h21, rfl, rfl⟩ := hp
      refine g_nrm (cs1 := [w120, fz]) (st1 := []) rfl rfl ?_
      refine g_iconst hX (pc := 112) (v := 1) dX7_doesNow_112 (by decide) ?_
      refine g_iret hX (pc := 113) hR ?_ (by omega) (by omega) dX7_doesNow_113
      rw [show sDo S (nI (rC r)) (rK r) (rY r) (rA r) (rB r) = sFree S (rY r) (nI (rC r)) from by unfold sDo; rw [if_neg (by omega), if_pos h14_4], show sFree S (rY r) (nI (rC r)) = (up2 (up2 S 1 (rY r) (-1)) 3 (rY r) (-1), 1) from if_pos (by rw [← e1]; exact c15)]
      exact ⟨_, h21, rfl, rfl⟩
    · refine g_iconst hX (pc := 105) (v := 0) dX7_doesNow_105 (by decide) ?_
      refine g_pk [0, 0, 0, 0, 0, 0, 0] rfl ?_
      refine g_fl (cs1 := [[(a, ob 6 [.ref (sr 0), .ref (sr 1), .ref (sr 2), .ref (sr 3), .int (S 6 0), .ref (sr 4), .ref (sr 5)]), (sr 0, iA (aC E 0) 4 f1), (sr 1, iA (aC E 0) 4 f2), (sr 2, iA (aC E 0) 4 f3), (sr 3, iA (aC E 0) 4 f4), (sr 4, iA (aC E 0) 4 f5), (sr 5, iA (aC E 0) 4 f6)], fz]) rfl ?_
      refine g_iret hX (pc := 106) hR ?_ (by omega) (by omega) dX7_doesNow_106
      rw [show sDo S (nI (rC r)) (rK r) (rY r) (rA r) (rB r) = sFree S (rY r) (nI (rC r)) from by unfold sDo; rw [if_neg (by omega), if_pos h14_4], show sFree S (rY r) (nI (rC r)) = (S, 0) from if_neg (by rw [← e1]; exact c15)]
      exact ⟨_, IsMR.mk6 hS7 rfl, rfl, rfl⟩
  · have h14_d : 4 < (rK r) := by omega
    refine g_tableOut hX (pc := 14) (tgt := 114) dX7_doesNow_14 (by rw [nI_toInt (by omega)]; omega) rfl ?_
    refine g_aload_n hX (pc := 114) dX7_doesNow_114 2 rfl ?_
    refine g_dup hX (pc := 115) dX7_doesNow_115 rfl ?_
    refine g_get hX (pc := 116) fcX7 0 rfl 4 (by decide) q1634 rfl (v := .int (S 6 0)) rfl dX7_doesNow_116 ?_
    refine g_aload_n hX (pc := 119) dX7_doesNow_119 3 rfl ?_
    refine g_iconst hX (pc := 120) (v := 3) dX7_doesNow_120 (by decide) ?_
    refine g_iald hX (pc := 121) (sp_in 7 rfl hr) (v := rA r) (by unfold vp_in; decide) rfl dX7_doesNow_121 ?_
    refine g_iadd hX (pc := 122) dX7_doesNow_122 ?_
    refine g_put hX (pc := 123) fcX7 0 (fs1 := [.ref (sr 0), .ref (sr 1), .ref (sr 2), .ref (sr 3), .int ((S 6 0) + (rA r)), .ref (sr 4), .ref (sr 5)]) (cs1 := [[(a, ob 6 [.ref (sr 0), .ref (sr 1), .ref (sr 2), .ref (sr 3), .int ((S 6 0) + (rA r)), .ref (sr 4), .ref (sr 5)])], [(sr 0, iA (aC E 0) 4 f1)], [(sr 1, iA (aC E 0) 4 f2)], [(sr 2, iA (aC E 0) 4 f3)], [(sr 3, iA (aC E 0) 4 f4)], [(sr 4, iA (aC E 0) 4 f5)], [(sr 5, iA (aC E 0) 4 f6)], fz]) rfl 4 (by decide) q1634 rfl rfl rfl rfl (Nat.le_of_ble_eq_true rfl) rfl rfl dX7_doesNow_123 ?_
    refine g_iconst hX (pc := 126) (v := 0) dX7_doesNow_126 (by decide) ?_
    refine g_eqi (nI 0) (nI_0.symm) ?_
    refine g_istore hX (pc := 127) (lv1 := [(4, .int (nI 0)), (3, .int (S 0 (rY r))), (2, .int (nI (rY r))), (0, .ref a), (1, .ref rq)]) dX7_doesNow_127 (by decide) rfl ?_
    refine g_pk [0, 0, 0, 0, 0, 0, 0] rfl ?_
    refine g_fl (cs1 := [[(a, ob 6 [.ref (sr 0), .ref (sr 1), .ref (sr 2), .ref (sr 3), .int ((S 6 0) + (rA r)), .ref (sr 4), .ref (sr 5)]), (sr 0, iA (aC E 0) 4 f1), (sr 1, iA (aC E 0) 4 f2), (sr 2, iA (aC E 0) 4 f3), (sr 3, iA (aC E 0) 4 f4), (sr 4, iA (aC E 0) 4 f5), (sr 5, iA (aC E 0) 4 f6)], fz]) rfl ?_
    have hp22 : IsMR E a sr (paS S (rA r) 0) [(a, ob 6 [.ref (sr 0), .ref (sr 1), .ref (sr 2), .ref (sr 3), .int ((S 6 0) + (rA r)), .ref (sr 4), .ref (sr 5)]), (sr 0, iA (aC E 0) 4 f1), (sr 1, iA (aC E 0) 4 f2), (sr 2, iA (aC E 0) 4 f3), (sr 3, iA (aC E 0) 4 f4), (sr 4, iA (aC E 0) 4 f5), (sr 5, iA (aC E 0) 4 f6)] := IsMR.mk6 (paS_0 hS7) paS_6
    generalize [(a, ob 6 [.ref (sr 0), .ref (sr 1), .ref (sr 2), .ref (sr 3), .int ((S 6 0) + (rA r)), .ref (sr 4), .ref (sr 5)]), (sr 0, iA (aC E 0) 4 f1), (sr 1, iA (aC E 0) 4 f2), (sr 2, iA (aC E 0) 4 f3), (sr 3, iA (aC E 0) 4 f4), (sr 4, iA (aC E 0) 4 f5), (sr 5, iA (aC E 0) 4 f6)] = wp23 at hp22 ⊢
    have lp24 : ∀ (F1 : Nat) (i : Nat) (w1 : va_W), 4 - i < F1 → (i ≤ 4) → IsMR E a sr (paS S (rA r) i) w1 → G E l X [w1, fz] 0 0 129 [(4, .int (nI i)), (0, .ref a)] [] := by
      intro F1
      induction F1 with
      | zero =>
        intro i w1 hF hi hp1
        exact absurd hF (Nat.not_lt_zero _)
      | succ F1 ih1 =>
        intro i w1 hF hi hp1
        refine g_iload hX (pc := 129) dX7_doesNow_129 0 rfl ?_
        refine g_iconst hX (pc := 131) (v := 4) dX7_doesNow_131 (by decide) ?_
        refine g_icmp_ge hX (pc := 132) (tgt := 172) dX7_doesNow_132 rfl (fun c25 => ?_) (fun c25 => ?_)
        · have hi4 : i = 4 := by
            have := (nI_leI (a := 4) (b := i) (by omega) (by omega)).mp c25
            omega
          obtain ⟨f26, f27, f28, f29, f30, f31, hS32, rfl⟩ := hp1
          refine g_fl (cs1 := [[(a, ob 6 [.ref (sr 0), .ref (sr 1), .ref (sr 2), .ref (sr 3), .int ((paS S (rA r) i) 6 0), .ref (sr 4), .ref (sr 5)])], [(sr 0, iA (aC E 0) 4 f26)], [(sr 1, iA (aC E 0) 4 f27)], [(sr 2, iA (aC E 0) 4 f28)], [(sr 3, iA (aC E 0) 4 f29)], [(sr 4, iA (aC E 0) 4 f30)], [(sr 5, iA (aC E 0) 4 f31)], fz]) rfl ?_
          refine g_aload_n hX (pc := 172) dX7_doesNow_172 1 rfl ?_
          refine g_get hX (pc := 173) fcX7 0 rfl 4 (by decide) q1634 rfl (v := .int ((paS S (rA r) i) 6 0)) rfl dX7_doesNow_173 ?_
          refine g_pk [0, 0, 0, 0, 0, 0, 0] rfl ?_
          refine g_fl (cs1 := [[(a, ob 6 [.ref (sr 0), .ref (sr 1), .ref (sr 2), .ref (sr 3), .int ((paS S (rA r) i) 6 0), .ref (sr 4), .ref (sr 5)]), (sr 0, iA (aC E 0) 4 f26), (sr 1, iA (aC E 0) 4 f27), (sr 2, iA (aC E 0) 4 f28), (sr 3, iA (aC E 0) 4 f29), (sr 4, iA (aC E 0) 4 f30), (sr 5, iA (aC E 0) 4 f31)], fz]) rfl ?_
          refine g_iret hX (pc := 176) hR ?_ (by omega) (by omega) dX7_doesNow_176
          subst hi4
          rw [show sDo S (nI (rC r)) (rK r) (rY r) (rA r) (rB r) = sPass S (rA r) from by unfold sDo; rw [if_neg (by omega), if_neg (by omega), if_pos (by omega)]]
          exact ⟨_, IsMR.mk6 (paS_4 hS32) (by rw [paS_6]; simp [sPass]), by rw [paS_6]; rfl, rfl⟩
        · have hi3 : i < 4 := by
            have := mt (nI_leI (a := 4) (b := i) (by omega) (by omega)).mpr c25
            omega
          obtain ⟨f33, f34, f35, f36, f37, f38, hS39, rfl⟩ := hp1
          refine g_fl (cs1 := [[(a, ob 6 [.ref (sr 0), .ref (sr 1), .ref (sr 2), .ref (sr 3), .int ((paS S (rA r) i) 6 0), .ref (sr 4), .ref (sr 5)])], [(sr 0, iA (aC E 0) 4 f33)], [(sr 1, iA (aC E 0) 4 f34)], [(sr 2, iA (aC E 0) 4 f35)], [(sr 3, iA (aC E 0) 4 f36)], [(sr 4, iA (aC E 0) 4 f37)], [(sr 5, iA (aC E 0) 4 f38)], fz]) rfl ?_
          obtain ⟨y0, y1, y2, y3, y4, y5⟩ := hS39 i hi3
          refine g_aload_n hX (pc := 135) dX7_doesNow_135 1 rfl ?_
          refine g_get hX (pc := 136) fcX7 0 rfl 3 (by decide) q1632 rfl (v := .ref (sr 3)) rfl dX7_doesNow_136 ?_
          refine g_iload hX (pc := 139) dX7_doesNow_139 0 rfl ?_
          refine g_iald hX (pc := 141) (sp_mem (i := 4) rfl) (v := S 3 i) (vp_in_nI (by omega) (by omega)) (by rw [nI_clamp (by omega), y3, paS_3]) dX7_doesNow_141 ?_
          refine g_iconst hX (pc := 142) (v := (-1)) dX7_doesNow_142 (by decide) ?_
          refine g_icmp_eq hX (pc := 143) (tgt := 166) dX7_doesNow_143 rfl (fun c40 => ?_) (fun c40 => ?_)
          · refine g_pk [0, 0, 0, 0, 0, 0, 0] rfl ?_
            refine g_fl (cs1 := [[(a, ob 6 [.ref (sr 0), .ref (sr 1), .ref (sr 2), .ref (sr 3), .int ((paS S (rA r) i) 6 0), .ref (sr 4), .ref (sr 5)]), (sr 0, iA (aC E 0) 4 f33), (sr 1, iA (aC E 0) 4 f34), (sr 2, iA (aC E 0) 4 f35), (sr 3, iA (aC E 0) 4 f36), (sr 4, iA (aC E 0) 4 f37), (sr 5, iA (aC E 0) 4 f38)], fz]) rfl ?_
            have hp41 : IsMR E a sr (paS S (rA r) i) [(a, ob 6 [.ref (sr 0), .ref (sr 1), .ref (sr 2), .ref (sr 3), .int ((paS S (rA r) i) 6 0), .ref (sr 4), .ref (sr 5)]), (sr 0, iA (aC E 0) 4 f33), (sr 1, iA (aC E 0) 4 f34), (sr 2, iA (aC E 0) 4 f35), (sr 3, iA (aC E 0) 4 f36), (sr 4, iA (aC E 0) 4 f37), (sr 5, iA (aC E 0) 4 f38)] := IsMR.mk6 hS39 rfl
            generalize [(a, ob 6 [.ref (sr 0), .ref (sr 1), .ref (sr 2), .ref (sr 3), .int ((paS S (rA r) i) 6 0), .ref (sr 4), .ref (sr 5)]), (sr 0, iA (aC E 0) 4 f33), (sr 1, iA (aC E 0) 4 f34), (sr 2, iA (aC E 0) 4 f35), (sr 3, iA (aC E 0) 4 f36), (sr 4, iA (aC E 0) 4 f37), (sr 5, iA (aC E 0) 4 f38)] = wp42 at hp41 ⊢
            refine g_iinc hX (pc := 166) (v := nI (i + 1)) (lv1 := [(4, .int (nI (i + 1))), (0, .ref a)]) dX7_doesNow_166 0 rfl (nI_1 _) (by decide) rfl ?_
            refine g_goto hX (pc := 169) (tgt := 129) dX7_doesNow_169 rfl ?_
            refine g_widen (kc1 := 0) (ks1 := 0) (by omega) (by omega) ?_
            exact ih1 (i + 1) wp42 (by omega) (by omega) (by rw [paS_n (fun z => z.1 c40)]; exact hp41)
          · refine g_aload_n hX (pc := 146) dX7_doesNow_146 1 rfl ?_
            refine g_get hX (pc := 147) fcX7 0 rfl 3 (by decide) q1632 rfl (v := .ref (sr 3)) rfl dX7_doesNow_147 ?_
            refine g_iload hX (pc := 150) dX7_doesNow_150 0 rfl ?_
            refine g_iald hX (pc := 152) (sp_mem (i := 4) rfl) (v := S 3 i) (vp_in_nI (by omega) (by omega)) (by rw [nI_clamp (by omega), y3, paS_3]) dX7_doesNow_152 ?_
            refine g_aload_n hX (pc := 153) dX7_doesNow_153 1 rfl ?_
            refine g_get hX (pc := 154) fcX7 0 rfl 4 (by decide) q1634 rfl (v := .int ((paS S (rA r) i) 6 0)) rfl dX7_doesNow_154 ?_
            refine g_icmp_gt hX (pc := 157) (tgt := 166) dX7_doesNow_157 rfl (fun c43 => ?_) (fun c43 => ?_)
            · refine g_pk [0, 0, 0, 0, 0, 0, 0] rfl ?_
              refine g_fl (cs1 := [[(a, ob 6 [.ref (sr 0), .ref (sr 1), .ref (sr 2), .ref (sr 3), .int ((paS S (rA r) i) 6 0), .ref (sr 4), .ref (sr 5)]), (sr 0, iA (aC E 0) 4 f33), (sr 1, iA (aC E 0) 4 f34), (sr 2, iA (aC E 0) 4 f35), (sr 3, iA (aC E 0) 4 f36), (sr 4, iA (aC E 0) 4 f37), (sr 5, iA (aC E 0) 4 f38)], fz]) rfl ?_
              have hp44 : IsMR E a sr (paS S (rA r) i) [(a, ob 6 [.ref (sr 0), .ref (sr 1), .ref (sr 2), .ref (sr 3), .int ((paS S (rA r) i) 6 0), .ref (sr 4), .ref (sr 5)]), (sr 0, iA (aC E 0) 4 f33), (sr 1, iA (aC E 0) 4 f34), (sr 2, iA (aC E 0) 4 f35), (sr 3, iA (aC E 0) 4 f36), (sr 4, iA (aC E 0) 4 f37), (sr 5, iA (aC E 0) 4 f38)] := IsMR.mk6 hS39 rfl
              generalize [(a, ob 6 [.ref (sr 0), .ref (sr 1), .ref (sr 2), .ref (sr 3), .int ((paS S (rA r) i) 6 0), .ref (sr 4), .ref (sr 5)]), (sr 0, iA (aC E 0) 4 f33), (sr 1, iA (aC E 0) 4 f34), (sr 2, iA (aC E 0) 4 f35), (sr 3, iA (aC E 0) 4 f36), (sr 4, iA (aC E 0) 4 f37), (sr 5, iA (aC E 0) 4 f38)] = wp45 at hp44 ⊢
              refine g_iinc hX (pc := 166) (v := nI (i + 1)) (lv1 := [(4, .int (nI (i + 1))), (0, .ref a)]) dX7_doesNow_166 0 rfl (nI_1 _) (by decide) rfl ?_
              refine g_goto hX (pc := 169) (tgt := 129) dX7_doesNow_169 rfl ?_
              refine g_widen (kc1 := 0) (ks1 := 0) (by omega) (by omega) ?_
              exact ih1 (i + 1) wp45 (by omega) (by omega) (by rw [paS_n (fun z => absurd z.2 (Int32.not_le.mpr (by rw [← paS_6 (S := S) (m := rA r) (i := i)]; exact c43)))]; exact hp44)
            · refine g_aload_n hX (pc := 160) dX7_doesNow_160 1 rfl ?_
              refine g_iload hX (pc := 161) dX7_doesNow_161 0 rfl ?_
              refine g_pk [0, 0, 0, 0, 0, 0, 0] rfl ?_
              refine g_fl (cs1 := [[(a, ob 6 [.ref (sr 0), .ref (sr 1), .ref (sr 2), .ref (sr 3), .int ((paS S (rA r) i) 6 0), .ref (sr 4), .ref (sr 5)]), (sr 0, iA (aC E 0) 4 f33), (sr 1, iA (aC E 0) 4 f34), (sr 2, iA (aC E 0) 4 f35), (sr 3, iA (aC E 0) 4 f36), (sr 4, iA (aC E 0) 4 f37), (sr 5, iA (aC E 0) 4 f38)], fz]) rfl ?_
              have hp46 : IsMR E a sr (paS S (rA r) i) [(a, ob 6 [.ref (sr 0), .ref (sr 1), .ref (sr 2), .ref (sr 3), .int ((paS S (rA r) i) 6 0), .ref (sr 4), .ref (sr 5)]), (sr 0, iA (aC E 0) 4 f33), (sr 1, iA (aC E 0) 4 f34), (sr 2, iA (aC E 0) 4 f35), (sr 3, iA (aC E 0) 4 f36), (sr 4, iA (aC E 0) 4 f37), (sr 5, iA (aC E 0) 4 f38)] := IsMR.mk6 hS39 rfl
              generalize [(a, ob 6 [.ref (sr 0), .ref (sr 1), .ref (sr 2), .ref (sr 3), .int ((paS S (rA r) i) 6 0), .ref (sr 4), .ref (sr 5)]), (sr 0, iA (aC E 0) 4 f33), (sr 1, iA (aC E 0) 4 f34), (sr 2, iA (aC E 0) 4 f35), (sr 3, iA (aC E 0) 4 f36), (sr 4, iA (aC E 0) 4 f37), (sr 5, iA (aC E 0) 4 f38)] = wp47 at hp46 ⊢
              obtain ⟨fs48, hm49⟩ := IsMR.head hp46
              refine g_callV hX (pc := 163) kX7_open (mt_MS_open E l a sr (paS S (rA r) i) wp47 i hp46 (hi3)) q1988 fcX7 (sp_in 0 rfl hm49) [0] rfl rfl rfl (Nat.le_of_ble_eq_true rfl) (Nat.le_of_ble_eq_true rfl) (Nat.le_of_ble_eq_true rfl) (by omega) (by omega) dX7_doesNow_163 (fun v w1 hp => ?_)
              obtain ⟨w150, h51, rfl, rfl⟩ := hp
              refine g_nrm (cs1 := [w150, fz]) (st1 := []) rfl rfl ?_
              refine g_iinc hX (pc := 166) (v := nI (i + 1)) (lv1 := [(4, .int (nI (i + 1))), (0, .ref a)]) dX7_doesNow_166 0 rfl (nI_1 _) (by decide) rfl ?_
              refine g_goto hX (pc := 169) (tgt := 129) dX7_doesNow_169 rfl ?_
              refine g_widen (kc1 := 0) (ks1 := 0) (by omega) (by omega) ?_
              exact ih1 (i + 1) w150 (by omega) (by omega) (by
  have hq := h51
  rw [paS_p ⟨c40, Int32.not_lt.mp (by rw [← paS_6 (S := S) (m := rA r) (i := i)]; exact c43)⟩] at hq
  exact hq)
    refine g_lv (lv1 := [(4, .int (nI 0)), (0, .ref a)]) [0, 3] rfl ?_
    refine g_widen (kc1 := 0) (ks1 := 0) (by omega) (by omega) ?_
    exact lp24 ((4 - 0) + 1) 0 wp23 (Nat.lt_succ_self _) (by omega) hp22

set_option maxHeartbeats 4000000 in
theorem mt_MS_does (E : EE) (l : Launch) (a : Nat) (sr : Nat → Nat) (S : PS) (w : va_W) (num : Int32) (rq : Nat) (r : PR) (fz : va_W) (hw : IsMR E a sr S w) (hr : ((rq, iA (aC E 0) 5 (rqF r)) ∈ fz)) (hc : (rC r < 4)) (hkd : (rK r < 6)) (hk : (rY r < 4)) : Mt E l yX7_does cX7_does 4 (some .int) 3 0 0 48 [.ref a, .int num, .ref rq] [w, fz] (fun (v_ : Option Value) (cs_ : List va_W) => ∃ (w1 : va_W), IsMR E a sr (Prod.fst (sDoes S num (rC r) (rK r) (rY r) (rA r) (rB r))) w1 ∧ v_ = some (.int (Prod.snd (sDoes S num (rC r) (rK r) (rY r) (rA r) (rB r)))) ∧ cs_ = [w1, fz]) := by
  refine Mt.of (by decide) (Nat.le_of_ble_eq_true rfl) (fun X hX hR hin => ?_)
  refine g_lv1 (lv1 := [(0, .ref a), (1, .int num), (2, .ref rq)]) rfl ?_
  obtain ⟨f1, f2, f3, f4, f5, f6, hS7, rfl⟩ := hw
  refine g_fl (cs1 := [[(a, ob 6 [.ref (sr 0), .ref (sr 1), .ref (sr 2), .ref (sr 3), .int (S 6 0), .ref (sr 4), .ref (sr 5)])], [(sr 0, iA (aC E 0) 4 f1)], [(sr 1, iA (aC E 0) 4 f2)], [(sr 2, iA (aC E 0) 4 f3)], [(sr 3, iA (aC E 0) 4 f4)], [(sr 4, iA (aC E 0) 4 f5)], [(sr 5, iA (aC E 0) 4 f6)], fz]) rfl ?_
  obtain ⟨y0, y1, y2, y3, y4, y5⟩ := hS7 (rC r) hc
  refine g_aload_n hX (pc := 0) dX7_does_0 2 rfl ?_
  refine g_iconst hX (pc := 1) (v := 0) dX7_does_1 (by decide) ?_
  refine g_iald hX (pc := 2) (sp_in 7 rfl hr) (v := nI (rC r)) (by unfold vp_in; decide) rfl dX7_does_2 ?_
  refine g_istore_n hX (pc := 3) (lv1 := [(3, .int (nI (rC r))), (0, .ref a), (1, .int num), (2, .ref rq)]) dX7_does_3 (by decide) rfl ?_
  refine g_aload_n hX (pc := 4) dX7_does_4 1 rfl ?_
  refine g_get hX (pc := 5) fcX7 0 rfl 5 (by decide) q1636 rfl (v := .ref (sr 4)) rfl dX7_does_5 ?_
  refine g_iload_n hX (pc := 8) dX7_does_8 0 rfl ?_
  refine g_iald hX (pc := 9) (sp_mem (i := 5) rfl) (v := S 4 (rC r)) (vp_in_nI (by omega) (by omega)) (by rw [nI_clamp (by omega)]; exact y4) dX7_does_9 ?_
  refine g_iload_n hX (pc := 10) dX7_does_10 2 rfl ?_
  refine g_icmp_le hX (pc := 11) (tgt := 16) dX7_does_11 rfl (fun c8 => ?_) (fun c8 => ?_)
  · refine g_aload_n hX (pc := 16) dX7_does_16 1 rfl ?_
    refine g_get hX (pc := 17) fcX7 0 rfl 5 (by decide) q1636 rfl (v := .ref (sr 4)) rfl dX7_does_17 ?_
    refine g_iload_n hX (pc := 20) dX7_does_20 0 rfl ?_
    refine g_iald hX (pc := 21) (sp_mem (i := 5) rfl) (v := S 4 (rC r)) (vp_in_nI (by omega) (by omega)) (by rw [nI_clamp (by omega)]; exact y4) dX7_does_21 ?_
    refine g_iload_n hX (pc := 22) dX7_does_22 2 rfl ?_
    refine g_icmp_ne hX (pc := 23) (tgt := 33) dX7_does_23 rfl (fun c9 => ?_) (fun c9 => ?_)
    · refine g_aload_n hX (pc := 33) dX7_does_33 1 rfl ?_
      refine g_get hX (pc := 34) fcX7 0 rfl 5 (by decide) q1636 rfl (v := .ref (sr 4)) rfl dX7_does_34 ?_
      refine g_iload_n hX (pc := 37) dX7_does_37 0 rfl ?_
      refine g_iload_n hX (pc := 38) dX7_does_38 2 rfl ?_
      refine g_iast hX (pc := 39) (f1 := (upd f5 (rC r) num)) (cs1 := [[(a, ob 6 [.ref (sr 0), .ref (sr 1), .ref (sr 2), .ref (sr 3), .int (S 6 0), .ref (sr 4), .ref (sr 5)])], [(sr 0, iA (aC E 0) 4 f1)], [(sr 1, iA (aC E 0) 4 f2)], [(sr 2, iA (aC E 0) 4 f3)], [(sr 3, iA (aC E 0) 4 f4)], [(sr 4, iA (aC E 0) 4 (upd f5 (rC r) num))], [(sr 5, iA (aC E 0) 4 f6)], fz]) 5 rfl (vp_in_nI (by omega) (by omega)) (by rw [nI_clamp (by omega)]) rfl dX7_does_39 ?_
      refine g_aload_n hX (pc := 40) dX7_does_40 1 rfl ?_
      refine g_get hX (pc := 41) fcX7 0 rfl 6 (by decide) q1637 rfl (v := .ref (sr 5)) rfl dX7_does_41 ?_
      refine g_iload_n hX (pc := 44) dX7_does_44 0 rfl ?_
      refine g_aload_n hX (pc := 45) dX7_does_45 1 rfl ?_
      refine g_aload_n hX (pc := 46) dX7_does_46 3 rfl ?_
      refine g_pk [0, 0, 0, 0, 0, 0, 0] rfl ?_
      refine g_fl (cs1 := [[(a, ob 6 [.ref (sr 0), .ref (sr 1), .ref (sr 2), .ref (sr 3), .int (S 6 0), .ref (sr 4), .ref (sr 5)]), (sr 0, iA (aC E 0) 4 f1), (sr 1, iA (aC E 0) 4 f2), (sr 2, iA (aC E 0) 4 f3), (sr 3, iA (aC E 0) 4 f4), (sr 4, iA (aC E 0) 4 (upd f5 (rC r) num)), (sr 5, iA (aC E 0) 4 f6)], fz]) rfl ?_
      have hp10 : IsMR E a sr (up2 S 4 (rC r) num) [(a, ob 6 [.ref (sr 0), .ref (sr 1), .ref (sr 2), .ref (sr 3), .int (S 6 0), .ref (sr 4), .ref (sr 5)]), (sr 0, iA (aC E 0) 4 f1), (sr 1, iA (aC E 0) 4 f2), (sr 2, iA (aC E 0) 4 f3), (sr 3, iA (aC E 0) 4 f4), (sr 4, iA (aC E 0) 4 (upd f5 (rC r) num)), (sr 5, iA (aC E 0) 4 f6)] := IsMR.mk6 (s6_u4 hS7 (rC r) num) rfl
      generalize [(a, ob 6 [.ref (sr 0), .ref (sr 1), .ref (sr 2), .ref (sr 3), .int (S 6 0), .ref (sr 4), .ref (sr 5)]), (sr 0, iA (aC E 0) 4 f1), (sr 1, iA (aC E 0) 4 f2), (sr 2, iA (aC E 0) 4 f3), (sr 3, iA (aC E 0) 4 f4), (sr 4, iA (aC E 0) 4 (upd f5 (rC r) num)), (sr 5, iA (aC E 0) 4 f6)] = wp11 at hp10 ⊢
      obtain ⟨fs12, hm13⟩ := IsMR.head hp10
      refine g_callV hX (pc := 47) kX7_doesNow (mt_MS_doesNow E l a sr (up2 S 4 (rC r) num) wp11 rq r fz hp10 (hr) (hc) (hkd) (hk)) q1980 fcX7 (sp_in 0 rfl hm13) [0, 0] rfl rfl rfl (Nat.le_of_ble_eq_true rfl) (Nat.le_of_ble_eq_true rfl) (Nat.le_of_ble_eq_true rfl) (Nat.le_of_ble_eq_true rfl) (Nat.le_of_ble_eq_true rfl) dX7_does_47 (fun v w1 hp => ?_)
      obtain ⟨w114, h15, rfl, rfl⟩ := hp
      refine g_nrm (cs1 := [w114, fz]) (st1 := [.int (Prod.snd (sDo (up2 S 4 (rC r) num) (nI (rC r)) (rK r) (rY r) (rA r) (rB r))), .int (nI (rC r)), .ref (sr 5)]) rfl rfl ?_
      obtain ⟨f16, f17, f18, f19, f20, f21, hS22, rfl⟩ := h15
      refine g_fl (cs1 := [[(a, ob 6 [.ref (sr 0), .ref (sr 1), .ref (sr 2), .ref (sr 3), .int ((Prod.fst (sDo (up2 S 4 (rC r) num) (nI (rC r)) (rK r) (rY r) (rA r) (rB r))) 6 0), .ref (sr 4), .ref (sr 5)])], [(sr 0, iA (aC E 0) 4 f16)], [(sr 1, iA (aC E 0) 4 f17)], [(sr 2, iA (aC E 0) 4 f18)], [(sr 3, iA (aC E 0) 4 f19)], [(sr 4, iA (aC E 0) 4 f20)], [(sr 5, iA (aC E 0) 4 f21)], fz]) rfl ?_
      refine g_iast hX (pc := 50) (f1 := (upd f21 (rC r) (Prod.snd (sDo (up2 S 4 (rC r) num) (nI (rC r)) (rK r) (rY r) (rA r) (rB r))))) (cs1 := [[(a, ob 6 [.ref (sr 0), .ref (sr 1), .ref (sr 2), .ref (sr 3), .int ((Prod.fst (sDo (up2 S 4 (rC r) num) (nI (rC r)) (rK r) (rY r) (rA r) (rB r))) 6 0), .ref (sr 4), .ref (sr 5)])], [(sr 0, iA (aC E 0) 4 f16)], [(sr 1, iA (aC E 0) 4 f17)], [(sr 2, iA (aC E 0) 4 f18)], [(sr 3, iA (aC E 0) 4 f19)], [(sr 4, iA (aC E 0) 4 f20)], [(sr 5, iA (aC E 0) 4 (upd f21 (rC r) (Prod.snd (sDo (up2 S 4 (rC r) num) (nI (rC r)) (rK r) (rY r) (rA r) (rB r)))))], fz]) 6 rfl (vp_in_nI (by omega) (by omega)) (by rw [nI_clamp (by omega)]) rfl dX7_does_50 ?_
      refine g_aload_n hX (pc := 51) dX7_does_51 1 rfl ?_
      refine g_get hX (pc := 52) fcX7 0 rfl 6 (by decide) q1637 rfl (v := .ref (sr 5)) rfl dX7_does_52 ?_
      refine g_iload_n hX (pc := 55) dX7_does_55 0 rfl ?_
      refine g_iald hX (pc := 56) (sp_mem (i := 6) rfl) (v := (Prod.snd (sDo (up2 S 4 (rC r) num) (nI (rC r)) (rK r) (rY r) (rA r) (rB r)))) (vp_in_nI (by omega) (by omega)) (by rw [nI_clamp (by omega)]; exact pk_us) dX7_does_56 ?_
      refine g_pk [0, 0, 0, 0, 0, 0, 0] rfl ?_
      refine g_fl (cs1 := [[(a, ob 6 [.ref (sr 0), .ref (sr 1), .ref (sr 2), .ref (sr 3), .int ((Prod.fst (sDo (up2 S 4 (rC r) num) (nI (rC r)) (rK r) (rY r) (rA r) (rB r))) 6 0), .ref (sr 4), .ref (sr 5)]), (sr 0, iA (aC E 0) 4 f16), (sr 1, iA (aC E 0) 4 f17), (sr 2, iA (aC E 0) 4 f18), (sr 3, iA (aC E 0) 4 f19), (sr 4, iA (aC E 0) 4 f20), (sr 5, iA (aC E 0) 4 (upd f21 (rC r) (Prod.snd (sDo (up2 S 4 (rC r) num) (nI (rC r)) (rK r) (rY r) (rA r) (rB r)))))], fz]) rfl ?_
      refine g_iret hX (pc := 57) hR ?_ (Nat.le_of_ble_eq_true rfl) (Nat.le_of_ble_eq_true rfl) dX7_does_57
      have hx : S 4 (rC r) < num := Int32.lt_iff_le_and_ne.mpr ⟨c8, c9⟩
      rw [show sDoes S num (rC r) (rK r) (rY r) (rA r) (rB r) = (up2 (Prod.fst (sDo (up2 S 4 (rC r) num) (nI (rC r)) (rK r) (rY r) (rA r) (rB r))) 5 (rC r) (Prod.snd (sDo (up2 S 4 (rC r) num) (nI (rC r)) (rK r) (rY r) (rA r) (rB r))), Prod.snd (sDo (up2 S 4 (rC r) num) (nI (rC r)) (rK r) (rY r) (rA r) (rB r))) from if_pos hx]
      exact ⟨_, IsMR.mk6 (s6_u5 hS22 (rC r) _) rfl, rfl, rfl⟩
    · refine g_aload_n hX (pc := 26) dX7_does_26 1 rfl ?_
      refine g_get hX (pc := 27) fcX7 0 rfl 6 (by decide) q1637 rfl (v := .ref (sr 5)) rfl dX7_does_27 ?_
      refine g_iload_n hX (pc := 30) dX7_does_30 0 rfl ?_
      refine g_iald hX (pc := 31) (sp_mem (i := 6) rfl) (v := S 5 (rC r)) (vp_in_nI (by omega) (by omega)) (by rw [nI_clamp (by omega)]; exact y5) dX7_does_31 ?_
      refine g_pk [0, 0, 0, 0, 0, 0, 0] rfl ?_
      refine g_fl (cs1 := [[(a, ob 6 [.ref (sr 0), .ref (sr 1), .ref (sr 2), .ref (sr 3), .int (S 6 0), .ref (sr 4), .ref (sr 5)]), (sr 0, iA (aC E 0) 4 f1), (sr 1, iA (aC E 0) 4 f2), (sr 2, iA (aC E 0) 4 f3), (sr 3, iA (aC E 0) 4 f4), (sr 4, iA (aC E 0) 4 f5), (sr 5, iA (aC E 0) 4 f6)], fz]) rfl ?_
      refine g_iret hX (pc := 32) hR ?_ (Nat.le_of_ble_eq_true rfl) (Nat.le_of_ble_eq_true rfl) dX7_does_32
      rw [show sDoes S num (rC r) (rK r) (rY r) (rA r) (rB r) = (S, if num = S 4 (rC r) then S 5 (rC r) else (-1)) from if_neg (by rw [c9]; exact Int32.lt_irrefl), if_pos c9.symm]
      exact ⟨_, IsMR.mk6 hS7 rfl, rfl, rfl⟩
  · refine g_iconst hX (pc := 14) (v := (-1)) dX7_does_14 (by decide) ?_
    refine g_pk [0, 0, 0, 0, 0, 0, 0] rfl ?_
    refine g_fl (cs1 := [[(a, ob 6 [.ref (sr 0), .ref (sr 1), .ref (sr 2), .ref (sr 3), .int (S 6 0), .ref (sr 4), .ref (sr 5)]), (sr 0, iA (aC E 0) 4 f1), (sr 1, iA (aC E 0) 4 f2), (sr 2, iA (aC E 0) 4 f3), (sr 3, iA (aC E 0) 4 f4), (sr 4, iA (aC E 0) 4 f5), (sr 5, iA (aC E 0) 4 f6)], fz]) rfl ?_
    refine g_iret hX (pc := 15) hR ?_ (Nat.le_of_ble_eq_true rfl) (Nat.le_of_ble_eq_true rfl) dX7_does_15
    have hx := Int32.not_le.mp c8
    rw [show sDoes S num (rC r) (rK r) (rY r) (rA r) (rB r) = (S, if num = S 4 (rC r) then S 5 (rC r) else (-1)) from if_neg (Int32.not_lt.mpr (Int32.le_of_lt hx)), if_neg (fun z => absurd (z ▸ hx) (Int32.lt_irrefl))]
    exact ⟨_, IsMR.mk6 hS7 rfl, rfl, rfl⟩

set_option maxHeartbeats 4000000 in
theorem mt_MS_copy (E : EE) (l : Launch) (a : Nat) (sr : Nat → Nat) (S : PS) (w : va_W) (hw : IsMR E a sr S w) : Mt E l yX7_copy cX7_copy 5 (some (.object "QuorumspireModel$Store")) 2 9 43 40 [.ref a] [w] (fun (v_ : Option Value) (cs_ : List va_W) => ∃ (q : Nat) (w1 : va_W), IsMT E q S w1 ∧ v_ = some (.ref q) ∧ cs_ = [w1, w]) := by
  refine Mt.of (by decide) (Nat.le_of_ble_eq_true rfl) (fun X hX hR hin => ?_)
  refine g_lv1 (lv1 := [(0, .ref a)]) rfl ?_
  refine g_new hX (pc := 0) fcX7 q2047 q1621 q78 (fs := [.null, .null, .null, .null, .int 0, .null, .null]) (fun j hj => by match j, hj with | 0, _ => rfl | 1, _ => rfl | 2, _ => rfl | 3, _ => rfl | 4, _ => rfl | 5, _ => rfl | 6, _ => rfl | j + 7, h => exact absurd h (by omega)) (Nat.le_of_ble_eq_true rfl) (Nat.le_of_ble_eq_true rfl) dX7_copy_0 (fun q1 => ?_)
  refine g_dup hX (pc := 3) dX7_copy_3 rfl ?_
  refine g_callI hX (pc := 4) kX7_init (mt_MS_init E l q1) q2048 [0] rfl rfl rfl (Nat.le_of_ble_eq_true rfl) (Nat.le_of_ble_eq_true rfl) (Nat.le_of_ble_eq_true rfl) (Nat.le_of_ble_eq_true rfl) (Nat.le_of_ble_eq_true rfl) dX7_copy_4 (fun v w1 hp => ?_)
  obtain ⟨w2, h3, rfl, rfl⟩ := hp
  refine g_nrm (cs1 := [w2, w]) (st1 := [.ref q1]) rfl rfl ?_
  refine g_astore_n hX (pc := 7) (lv1 := [(1, .ref q1), (0, .ref a)]) dX7_copy_7 (by decide) rfl ?_
  obtain ⟨f4, f5, f6, f7, f8, f9, hS10, rfl⟩ := hw
  refine g_fl (cs1 := [w2, [(a, ob 6 [.ref (sr 0), .ref (sr 1), .ref (sr 2), .ref (sr 3), .int (S 6 0), .ref (sr 4), .ref (sr 5)])], [(sr 0, iA (aC E 0) 4 f4)], [(sr 1, iA (aC E 0) 4 f5)], [(sr 2, iA (aC E 0) 4 f6)], [(sr 3, iA (aC E 0) 4 f7)], [(sr 4, iA (aC E 0) 4 f8)], [(sr 5, iA (aC E 0) 4 f9)]]) rfl ?_
  obtain ⟨sr11, hr12⟩ := h3
  obtain ⟨f13, f14, f15, f16, f17, f18, hS19, rfl⟩ := hr12
  refine g_fl (cs1 := [[(q1, ob 6 [.ref (sr11 0), .ref (sr11 1), .ref (sr11 2), .ref (sr11 3), .int (S0 6 0), .ref (sr11 4), .ref (sr11 5)])], [(sr11 0, iA (aC E 0) 4 f13)], [(sr11 1, iA (aC E 0) 4 f14)], [(sr11 2, iA (aC E 0) 4 f15)], [(sr11 3, iA (aC E 0) 4 f16)], [(sr11 4, iA (aC E 0) 4 f17)], [(sr11 5, iA (aC E 0) 4 f18)], [(a, ob 6 [.ref (sr 0), .ref (sr 1), .ref (sr 2), .ref (sr 3), .int (S 6 0), .ref (sr 4), .ref (sr 5)])], [(sr 0, iA (aC E 0) 4 f4)], [(sr 1, iA (aC E 0) 4 f5)], [(sr 2, iA (aC E 0) 4 f6)], [(sr 3, iA (aC E 0) 4 f7)], [(sr 4, iA (aC E 0) 4 f8)], [(sr 5, iA (aC E 0) 4 f9)]]) rfl ?_
  refine g_bipush hX (pc := 8) (v := 6) dX7_copy_8 (by decide) ?_
  refine g_newqA hX (pc := 10) q2049 6 (by decide) (by decide) (Nat.le_of_ble_eq_true rfl) (Nat.le_of_ble_eq_true rfl) (Nat.le_of_ble_eq_true rfl) dX7_copy_10 (fun q20 => ?_)
  refine g_dup hX (pc := 13) dX7_copy_13 rfl ?_
  refine g_iconst hX (pc := 14) (v := 0) dX7_copy_14 (by decide) ?_
  refine g_aload_n hX (pc := 15) dX7_copy_15 1 rfl ?_
  refine g_get hX (pc := 16) fcX7 8 rfl 0 (by decide) q1626 rfl (v := .ref (sr 0)) rfl dX7_copy_16 ?_
  refine g_aastA hX (pc := 19) (f1 := (va_up (fun _ => none) 0 (some (sr 0)))) (cs1 := [[(q20, qA (aC E 5) 6 (va_up (fun _ => none) 0 (some (sr 0))))], [(q1, ob 6 [.ref (sr11 0), .ref (sr11 1), .ref (sr11 2), .ref (sr11 3), .int (S0 6 0), .ref (sr11 4), .ref (sr11 5)])], [(sr11 0, iA (aC E 0) 4 f13)], [(sr11 1, iA (aC E 0) 4 f14)], [(sr11 2, iA (aC E 0) 4 f15)], [(sr11 3, iA (aC E 0) 4 f16)], [(sr11 4, iA (aC E 0) 4 f17)], [(sr11 5, iA (aC E 0) 4 f18)], [(a, ob 6 [.ref (sr 0), .ref (sr 1), .ref (sr 2), .ref (sr 3), .int (S 6 0), .ref (sr 4), .ref (sr 5)])], [(sr 0, iA (aC E 0) 4 f4)], [(sr 1, iA (aC E 0) 4 f5)], [(sr 2, iA (aC E 0) 4 f6)], [(sr 3, iA (aC E 0) 4 f7)], [(sr 4, iA (aC E 0) 4 f8)], [(sr 5, iA (aC E 0) 4 f9)]]) 0 rfl (sp_mem (i := 9) rfl) (by unfold vp_in; decide) rfl rfl dX7_copy_19 ?_
  refine g_dup hX (pc := 20) dX7_copy_20 rfl ?_
  refine g_iconst hX (pc := 21) (v := 1) dX7_copy_21 (by decide) ?_
  refine g_aload_n hX (pc := 22) dX7_copy_22 1 rfl ?_
  refine g_get hX (pc := 23) fcX7 8 rfl 1 (by decide) q1628 rfl (v := .ref (sr 1)) rfl dX7_copy_23 ?_
  refine g_aastA hX (pc := 26) (f1 := (va_up (va_up (fun _ => none) 0 (some (sr 0))) 1 (some (sr 1)))) (cs1 := [[(q20, qA (aC E 5) 6 (va_up (va_up (fun _ => none) 0 (some (sr 0))) 1 (some (sr 1))))], [(q1, ob 6 [.ref (sr11 0), .ref (sr11 1), .ref (sr11 2), .ref (sr11 3), .int (S0 6 0), .ref (sr11 4), .ref (sr11 5)])], [(sr11 0, iA (aC E 0) 4 f13)], [(sr11 1, iA (aC E 0) 4 f14)], [(sr11 2, iA (aC E 0) 4 f15)], [(sr11 3, iA (aC E 0) 4 f16)], [(sr11 4, iA (aC E 0) 4 f17)], [(sr11 5, iA (aC E 0) 4 f18)], [(a, ob 6 [.ref (sr 0), .ref (sr 1), .ref (sr 2), .ref (sr 3), .int (S 6 0), .ref (sr 4), .ref (sr 5)])], [(sr 0, iA (aC E 0) 4 f4)], [(sr 1, iA (aC E 0) 4 f5)], [(sr 2, iA (aC E 0) 4 f6)], [(sr 3, iA (aC E 0) 4 f7)], [(sr 4, iA (aC E 0) 4 f8)], [(sr 5, iA (aC E 0) 4 f9)]]) 0 rfl (sp_mem (i := 10) rfl) (by unfold vp_in; decide) rfl rfl dX7_copy_26 ?_
  refine g_dup hX (pc := 27) dX7_copy_27 rfl ?_
  refine g_iconst hX (pc := 28) (v := 2) dX7_copy_28 (by decide) ?_
  refine g_aload_n hX (pc := 29) dX7_copy_29 1 rfl ?_
  refine g_get hX (pc := 30) fcX7 8 rfl 2 (by decide) q1630 rfl (v := .ref (sr 2)) rfl dX7_copy_30 ?_
  refine g_aastA hX (pc := 33) (f1 := (va_up (va_up (va_up (fun _ => none) 0 (some (sr 0))) 1 (some (sr 1))) 2 (some (sr 2)))) (cs1 := [[(q20, qA (aC E 5) 6 (va_up (va_up (va_up (fun _ => none) 0 (some (sr 0))) 1 (some (sr 1))) 2 (some (sr 2))))], [(q1, ob 6 [.ref (sr11 0), .ref (sr11 1), .ref (sr11 2), .ref (sr11 3), .int (S0 6 0), .ref (sr11 4), .ref (sr11 5)])], [(sr11 0, iA (aC E 0) 4 f13)], [(sr11 1, iA (aC E 0) 4 f14)], [(sr11 2, iA (aC E 0) 4 f15)], [(sr11 3, iA (aC E 0) 4 f16)], [(sr11 4, iA (aC E 0) 4 f17)], [(sr11 5, iA (aC E 0) 4 f18)], [(a, ob 6 [.ref (sr 0), .ref (sr 1), .ref (sr 2), .ref (sr 3), .int (S 6 0), .ref (sr 4), .ref (sr 5)])], [(sr 0, iA (aC E 0) 4 f4)], [(sr 1, iA (aC E 0) 4 f5)], [(sr 2, iA (aC E 0) 4 f6)], [(sr 3, iA (aC E 0) 4 f7)], [(sr 4, iA (aC E 0) 4 f8)], [(sr 5, iA (aC E 0) 4 f9)]]) 0 rfl (sp_mem (i := 11) rfl) (by unfold vp_in; decide) rfl rfl dX7_copy_33 ?_
  refine g_dup hX (pc := 34) dX7_copy_34 rfl ?_
  refine g_iconst hX (pc := 35) (v := 3) dX7_copy_35 (by decide) ?_
  refine g_aload_n hX (pc := 36) dX7_copy_36 1 rfl ?_
  refine g_get hX (pc := 37) fcX7 8 rfl 3 (by decide) q1632 rfl (v := .ref (sr 3)) rfl dX7_copy_37 ?_
  refine g_aastA hX (pc := 40) (f1 := (va_up (va_up (va_up (va_up (fun _ => none) 0 (some (sr 0))) 1 (some (sr 1))) 2 (some (sr 2))) 3 (some (sr 3)))) (cs1 := [[(q20, qA (aC E 5) 6 (va_up (va_up (va_up (va_up (fun _ => none) 0 (some (sr 0))) 1 (some (sr 1))) 2 (some (sr 2))) 3 (some (sr 3))))], [(q1, ob 6 [.ref (sr11 0), .ref (sr11 1), .ref (sr11 2), .ref (sr11 3), .int (S0 6 0), .ref (sr11 4), .ref (sr11 5)])], [(sr11 0, iA (aC E 0) 4 f13)], [(sr11 1, iA (aC E 0) 4 f14)], [(sr11 2, iA (aC E 0) 4 f15)], [(sr11 3, iA (aC E 0) 4 f16)], [(sr11 4, iA (aC E 0) 4 f17)], [(sr11 5, iA (aC E 0) 4 f18)], [(a, ob 6 [.ref (sr 0), .ref (sr 1), .ref (sr 2), .ref (sr 3), .int (S 6 0), .ref (sr 4), .ref (sr 5)])], [(sr 0, iA (aC E 0) 4 f4)], [(sr 1, iA (aC E 0) 4 f5)], [(sr 2, iA (aC E 0) 4 f6)], [(sr 3, iA (aC E 0) 4 f7)], [(sr 4, iA (aC E 0) 4 f8)], [(sr 5, iA (aC E 0) 4 f9)]]) 0 rfl (sp_mem (i := 12) rfl) (by unfold vp_in; decide) rfl rfl dX7_copy_40 ?_
  refine g_dup hX (pc := 41) dX7_copy_41 rfl ?_
  refine g_iconst hX (pc := 42) (v := 4) dX7_copy_42 (by decide) ?_
  refine g_aload_n hX (pc := 43) dX7_copy_43 1 rfl ?_
  refine g_get hX (pc := 44) fcX7 8 rfl 5 (by decide) q1636 rfl (v := .ref (sr 4)) rfl dX7_copy_44 ?_
  refine g_aastA hX (pc := 47) (f1 := (va_up (va_up (va_up (va_up (va_up (fun _ => none) 0 (some (sr 0))) 1 (some (sr 1))) 2 (some (sr 2))) 3 (some (sr 3))) 4 (some (sr 4)))) (cs1 := [[(q20, qA (aC E 5) 6 (va_up (va_up (va_up (va_up (va_up (fun _ => none) 0 (some (sr 0))) 1 (some (sr 1))) 2 (some (sr 2))) 3 (some (sr 3))) 4 (some (sr 4))))], [(q1, ob 6 [.ref (sr11 0), .ref (sr11 1), .ref (sr11 2), .ref (sr11 3), .int (S0 6 0), .ref (sr11 4), .ref (sr11 5)])], [(sr11 0, iA (aC E 0) 4 f13)], [(sr11 1, iA (aC E 0) 4 f14)], [(sr11 2, iA (aC E 0) 4 f15)], [(sr11 3, iA (aC E 0) 4 f16)], [(sr11 4, iA (aC E 0) 4 f17)], [(sr11 5, iA (aC E 0) 4 f18)], [(a, ob 6 [.ref (sr 0), .ref (sr 1), .ref (sr 2), .ref (sr 3), .int (S 6 0), .ref (sr 4), .ref (sr 5)])], [(sr 0, iA (aC E 0) 4 f4)], [(sr 1, iA (aC E 0) 4 f5)], [(sr 2, iA (aC E 0) 4 f6)], [(sr 3, iA (aC E 0) 4 f7)], [(sr 4, iA (aC E 0) 4 f8)], [(sr 5, iA (aC E 0) 4 f9)]]) 0 rfl (sp_mem (i := 13) rfl) (by unfold vp_in; decide) rfl rfl dX7_copy_47 ?_
  refine g_dup hX (pc := 48) dX7_copy_48 rfl ?_
  refine g_iconst hX (pc := 49) (v := 5) dX7_copy_49 (by decide) ?_
  refine g_aload_n hX (pc := 50) dX7_copy_50 1 rfl ?_
  refine g_get hX (pc := 51) fcX7 8 rfl 6 (by decide) q1637 rfl (v := .ref (sr 5)) rfl dX7_copy_51 ?_
  refine g_aastA hX (pc := 54) (f1 := (va_up (va_up (va_up (va_up (va_up (va_up (fun _ => none) 0 (some (sr 0))) 1 (some (sr 1))) 2 (some (sr 2))) 3 (some (sr 3))) 4 (some (sr 4))) 5 (some (sr 5)))) (cs1 := [[(q20, qA (aC E 5) 6 (va_up (va_up (va_up (va_up (va_up (va_up (fun _ => none) 0 (some (sr 0))) 1 (some (sr 1))) 2 (some (sr 2))) 3 (some (sr 3))) 4 (some (sr 4))) 5 (some (sr 5))))], [(q1, ob 6 [.ref (sr11 0), .ref (sr11 1), .ref (sr11 2), .ref (sr11 3), .int (S0 6 0), .ref (sr11 4), .ref (sr11 5)])], [(sr11 0, iA (aC E 0) 4 f13)], [(sr11 1, iA (aC E 0) 4 f14)], [(sr11 2, iA (aC E 0) 4 f15)], [(sr11 3, iA (aC E 0) 4 f16)], [(sr11 4, iA (aC E 0) 4 f17)], [(sr11 5, iA (aC E 0) 4 f18)], [(a, ob 6 [.ref (sr 0), .ref (sr 1), .ref (sr 2), .ref (sr 3), .int (S 6 0), .ref (sr 4), .ref (sr 5)])], [(sr 0, iA (aC E 0) 4 f4)], [(sr 1, iA (aC E 0) 4 f5)], [(sr 2, iA (aC E 0) 4 f6)], [(sr 3, iA (aC E 0) 4 f7)], [(sr 4, iA (aC E 0) 4 f8)], [(sr 5, iA (aC E 0) 4 f9)]]) 0 rfl (sp_mem (i := 14) rfl) (by unfold vp_in; decide) rfl rfl dX7_copy_54 ?_
  refine g_astore_n hX (pc := 55) (lv1 := [(2, .ref q20), (1, .ref q1), (0, .ref a)]) dX7_copy_55 (by decide) rfl ?_
  refine g_bipush hX (pc := 56) (v := 6) dX7_copy_56 (by decide) ?_
  refine g_newqA hX (pc := 58) q2049 6 (by decide) (by decide) (Nat.le_of_ble_eq_true rfl) (Nat.le_of_ble_eq_true rfl) (Nat.le_of_ble_eq_true rfl) dX7_copy_58 (fun q21 => ?_)
  refine g_dup hX (pc := 61) dX7_copy_61 rfl ?_
  refine g_iconst hX (pc := 62) (v := 0) dX7_copy_62 (by decide) ?_
  refine g_aload_n hX (pc := 63) dX7_copy_63 1 rfl ?_
  refine g_get hX (pc := 64) fcX7 2 rfl 0 (by decide) q1626 rfl (v := .ref (sr11 0)) rfl dX7_copy_64 ?_
  refine g_aastA hX (pc := 67) (f1 := (va_up (fun _ => none) 0 (some (sr11 0)))) (cs1 := [[(q21, qA (aC E 5) 6 (va_up (fun _ => none) 0 (some (sr11 0))))], [(q20, qA (aC E 5) 6 (va_up (va_up (va_up (va_up (va_up (va_up (fun _ => none) 0 (some (sr 0))) 1 (some (sr 1))) 2 (some (sr 2))) 3 (some (sr 3))) 4 (some (sr 4))) 5 (some (sr 5))))], [(q1, ob 6 [.ref (sr11 0), .ref (sr11 1), .ref (sr11 2), .ref (sr11 3), .int (S0 6 0), .ref (sr11 4), .ref (sr11 5)])], [(sr11 0, iA (aC E 0) 4 f13)], [(sr11 1, iA (aC E 0) 4 f14)], [(sr11 2, iA (aC E 0) 4 f15)], [(sr11 3, iA (aC E 0) 4 f16)], [(sr11 4, iA (aC E 0) 4 f17)], [(sr11 5, iA (aC E 0) 4 f18)], [(a, ob 6 [.ref (sr 0), .ref (sr 1), .ref (sr 2), .ref (sr 3), .int (S 6 0), .ref (sr 4), .ref (sr 5)])], [(sr 0, iA (aC E 0) 4 f4)], [(sr 1, iA (aC E 0) 4 f5)], [(sr 2, iA (aC E 0) 4 f6)], [(sr 3, iA (aC E 0) 4 f7)], [(sr 4, iA (aC E 0) 4 f8)], [(sr 5, iA (aC E 0) 4 f9)]]) 0 rfl (sp_mem (i := 3) rfl) (by unfold vp_in; decide) rfl rfl dX7_copy_67 ?_
  refine g_dup hX (pc := 68) dX7_copy_68 rfl ?_
  refine g_iconst hX (pc := 69) (v := 1) dX7_copy_69 (by decide) ?_
  refine g_aload_n hX (pc := 70) dX7_copy_70 1 rfl ?_
  refine g_get hX (pc := 71) fcX7 2 rfl 1 (by decide) q1628 rfl (v := .ref (sr11 1)) rfl dX7_copy_71 ?_
  refine g_aastA hX (pc := 74) (f1 := (va_up (va_up (fun _ => none) 0 (some (sr11 0))) 1 (some (sr11 1)))) (cs1 := [[(q21, qA (aC E 5) 6 (va_up (va_up (fun _ => none) 0 (some (sr11 0))) 1 (some (sr11 1))))], [(q20, qA (aC E 5) 6 (va_up (va_up (va_up (va_up (va_up (va_up (fun _ => none) 0 (some (sr 0))) 1 (some (sr 1))) 2 (some (sr 2))) 3 (some (sr 3))) 4 (some (sr 4))) 5 (some (sr 5))))], [(q1, ob 6 [.ref (sr11 0), .ref (sr11 1), .ref (sr11 2), .ref (sr11 3), .int (S0 6 0), .ref (sr11 4), .ref (sr11 5)])], [(sr11 0, iA (aC E 0) 4 f13)], [(sr11 1, iA (aC E 0) 4 f14)], [(sr11 2, iA (aC E 0) 4 f15)], [(sr11 3, iA (aC E 0) 4 f16)], [(sr11 4, iA (aC E 0) 4 f17)], [(sr11 5, iA (aC E 0) 4 f18)], [(a, ob 6 [.ref (sr 0), .ref (sr 1), .ref (sr 2), .ref (sr 3), .int (S 6 0), .ref (sr 4), .ref (sr 5)])], [(sr 0, iA (aC E 0) 4 f4)], [(sr 1, iA (aC E 0) 4 f5)], [(sr 2, iA (aC E 0) 4 f6)], [(sr 3, iA (aC E 0) 4 f7)], [(sr 4, iA (aC E 0) 4 f8)], [(sr 5, iA (aC E 0) 4 f9)]]) 0 rfl (sp_mem (i := 4) rfl) (by unfold vp_in; decide) rfl rfl dX7_copy_74 ?_
  refine g_dup hX (pc := 75) dX7_copy_75 rfl ?_
  refine g_iconst hX (pc := 76) (v := 2) dX7_copy_76 (by decide) ?_
  refine g_aload_n hX (pc := 77) dX7_copy_77 1 rfl ?_
  refine g_get hX (pc := 78) fcX7 2 rfl 2 (by decide) q1630 rfl (v := .ref (sr11 2)) rfl dX7_copy_78 ?_
  refine g_aastA hX (pc := 81) (f1 := (va_up (va_up (va_up (fun _ => none) 0 (some (sr11 0))) 1 (some (sr11 1))) 2 (some (sr11 2)))) (cs1 := [[(q21, qA (aC E 5) 6 (va_up (va_up (va_up (fun _ => none) 0 (some (sr11 0))) 1 (some (sr11 1))) 2 (some (sr11 2))))], [(q20, qA (aC E 5) 6 (va_up (va_up (va_up (va_up (va_up (va_up (fun _ => none) 0 (some (sr 0))) 1 (some (sr 1))) 2 (some (sr 2))) 3 (some (sr 3))) 4 (some (sr 4))) 5 (some (sr 5))))], [(q1, ob 6 [.ref (sr11 0), .ref (sr11 1), .ref (sr11 2), .ref (sr11 3), .int (S0 6 0), .ref (sr11 4), .ref (sr11 5)])], [(sr11 0, iA (aC E 0) 4 f13)], [(sr11 1, iA (aC E 0) 4 f14)], [(sr11 2, iA (aC E 0) 4 f15)], [(sr11 3, iA (aC E 0) 4 f16)], [(sr11 4, iA (aC E 0) 4 f17)], [(sr11 5, iA (aC E 0) 4 f18)], [(a, ob 6 [.ref (sr 0), .ref (sr 1), .ref (sr 2), .ref (sr 3), .int (S 6 0), .ref (sr 4), .ref (sr 5)])], [(sr 0, iA (aC E 0) 4 f4)], [(sr 1, iA (aC E 0) 4 f5)], [(sr 2, iA (aC E 0) 4 f6)], [(sr 3, iA (aC E 0) 4 f7)], [(sr 4, iA (aC E 0) 4 f8)], [(sr 5, iA (aC E 0) 4 f9)]]) 0 rfl (sp_mem (i := 5) rfl) (by unfold vp_in; decide) rfl rfl dX7_copy_81 ?_
  refine g_dup hX (pc := 82) dX7_copy_82 rfl ?_
  refine g_iconst hX (pc := 83) (v := 3) dX7_copy_83 (by decide) ?_
  refine g_aload_n hX (pc := 84) dX7_copy_84 1 rfl ?_
  refine g_get hX (pc := 85) fcX7 2 rfl 3 (by decide) q1632 rfl (v := .ref (sr11 3)) rfl dX7_copy_85 ?_
  refine g_aastA hX (pc := 88) (f1 := (va_up (va_up (va_up (va_up (fun _ => none) 0 (some (sr11 0))) 1 (some (sr11 1))) 2 (some (sr11 2))) 3 (some (sr11 3)))) (cs1 := [[(q21, qA (aC E 5) 6 (va_up (va_up (va_up (va_up (fun _ => none) 0 (some (sr11 0))) 1 (some (sr11 1))) 2 (some (sr11 2))) 3 (some (sr11 3))))], [(q20, qA (aC E 5) 6 (va_up (va_up (va_up (va_up (va_up (va_up (fun _ => none) 0 (some (sr 0))) 1 (some (sr 1))) 2 (some (sr 2))) 3 (some (sr 3))) 4 (some (sr 4))) 5 (some (sr 5))))], [(q1, ob 6 [.ref (sr11 0), .ref (sr11 1), .ref (sr11 2), .ref (sr11 3), .int (S0 6 0), .ref (sr11 4), .ref (sr11 5)])], [(sr11 0, iA (aC E 0) 4 f13)], [(sr11 1, iA (aC E 0) 4 f14)], [(sr11 2, iA (aC E 0) 4 f15)], [(sr11 3, iA (aC E 0) 4 f16)], [(sr11 4, iA (aC E 0) 4 f17)], [(sr11 5, iA (aC E 0) 4 f18)], [(a, ob 6 [.ref (sr 0), .ref (sr 1), .ref (sr 2), .ref (sr 3), .int (S 6 0), .ref (sr 4), .ref (sr 5)])], [(sr 0, iA (aC E 0) 4 f4)], [(sr 1, iA (aC E 0) 4 f5)], [(sr 2, iA (aC E 0) 4 f6)], [(sr 3, iA (aC E 0) 4 f7)], [(sr 4, iA (aC E 0) 4 f8)], [(sr 5, iA (aC E 0) 4 f9)]]) 0 rfl (sp_mem (i := 6) rfl) (by unfold vp_in; decide) rfl rfl dX7_copy_88 ?_
  refine g_dup hX (pc := 89) dX7_copy_89 rfl ?_
  refine g_iconst hX (pc := 90) (v := 4) dX7_copy_90 (by decide) ?_
  refine g_aload_n hX (pc := 91) dX7_copy_91 1 rfl ?_
  refine g_get hX (pc := 92) fcX7 2 rfl 5 (by decide) q1636 rfl (v := .ref (sr11 4)) rfl dX7_copy_92 ?_
  refine g_aastA hX (pc := 95) (f1 := (va_up (va_up (va_up (va_up (va_up (fun _ => none) 0 (some (sr11 0))) 1 (some (sr11 1))) 2 (some (sr11 2))) 3 (some (sr11 3))) 4 (some (sr11 4)))) (cs1 := [[(q21, qA (aC E 5) 6 (va_up (va_up (va_up (va_up (va_up (fun _ => none) 0 (some (sr11 0))) 1 (some (sr11 1))) 2 (some (sr11 2))) 3 (some (sr11 3))) 4 (some (sr11 4))))], [(q20, qA (aC E 5) 6 (va_up (va_up (va_up (va_up (va_up (va_up (fun _ => none) 0 (some (sr 0))) 1 (some (sr 1))) 2 (some (sr 2))) 3 (some (sr 3))) 4 (some (sr 4))) 5 (some (sr 5))))], [(q1, ob 6 [.ref (sr11 0), .ref (sr11 1), .ref (sr11 2), .ref (sr11 3), .int (S0 6 0), .ref (sr11 4), .ref (sr11 5)])], [(sr11 0, iA (aC E 0) 4 f13)], [(sr11 1, iA (aC E 0) 4 f14)], [(sr11 2, iA (aC E 0) 4 f15)], [(sr11 3, iA (aC E 0) 4 f16)], [(sr11 4, iA (aC E 0) 4 f17)], [(sr11 5, iA (aC E 0) 4 f18)], [(a, ob 6 [.ref (sr 0), .ref (sr 1), .ref (sr 2), .ref (sr 3), .int (S 6 0), .ref (sr 4), .ref (sr 5)])], [(sr 0, iA (aC E 0) 4 f4)], [(sr 1, iA (aC E 0) 4 f5)], [(sr 2, iA (aC E 0) 4 f6)], [(sr 3, iA (aC E 0) 4 f7)], [(sr 4, iA (aC E 0) 4 f8)], [(sr 5, iA (aC E 0) 4 f9)]]) 0 rfl (sp_mem (i := 7) rfl) (by unfold vp_in; decide) rfl rfl dX7_copy_95 ?_
  refine g_dup hX (pc := 96) dX7_copy_96 rfl ?_
  refine g_iconst hX (pc := 97) (v := 5) dX7_copy_97 (by decide) ?_
  refine g_aload_n hX (pc := 98) dX7_copy_98 1 rfl ?_
  refine g_get hX (pc := 99) fcX7 2 rfl 6 (by decide) q1637 rfl (v := .ref (sr11 5)) rfl dX7_copy_99 ?_
  refine g_aastA hX (pc := 102) (f1 := (va_up (va_up (va_up (va_up (va_up (va_up (fun _ => none) 0 (some (sr11 0))) 1 (some (sr11 1))) 2 (some (sr11 2))) 3 (some (sr11 3))) 4 (some (sr11 4))) 5 (some (sr11 5)))) (cs1 := [[(q21, qA (aC E 5) 6 (va_up (va_up (va_up (va_up (va_up (va_up (fun _ => none) 0 (some (sr11 0))) 1 (some (sr11 1))) 2 (some (sr11 2))) 3 (some (sr11 3))) 4 (some (sr11 4))) 5 (some (sr11 5))))], [(q20, qA (aC E 5) 6 (va_up (va_up (va_up (va_up (va_up (va_up (fun _ => none) 0 (some (sr 0))) 1 (some (sr 1))) 2 (some (sr 2))) 3 (some (sr 3))) 4 (some (sr 4))) 5 (some (sr 5))))], [(q1, ob 6 [.ref (sr11 0), .ref (sr11 1), .ref (sr11 2), .ref (sr11 3), .int (S0 6 0), .ref (sr11 4), .ref (sr11 5)])], [(sr11 0, iA (aC E 0) 4 f13)], [(sr11 1, iA (aC E 0) 4 f14)], [(sr11 2, iA (aC E 0) 4 f15)], [(sr11 3, iA (aC E 0) 4 f16)], [(sr11 4, iA (aC E 0) 4 f17)], [(sr11 5, iA (aC E 0) 4 f18)], [(a, ob 6 [.ref (sr 0), .ref (sr 1), .ref (sr 2), .ref (sr 3), .int (S 6 0), .ref (sr 4), .ref (sr 5)])], [(sr 0, iA (aC E 0) 4 f4)], [(sr 1, iA (aC E 0) 4 f5)], [(sr 2, iA (aC E 0) 4 f6)], [(sr 3, iA (aC E 0) 4 f7)], [(sr 4, iA (aC E 0) 4 f8)], [(sr 5, iA (aC E 0) 4 f9)]]) 0 rfl (sp_mem (i := 8) rfl) (by unfold vp_in; decide) rfl rfl dX7_copy_102 ?_
  refine g_astore_n hX (pc := 103) (lv1 := [(3, .ref q21), (2, .ref q20), (1, .ref q1), (0, .ref a)]) dX7_copy_103 (by decide) rfl ?_
  refine g_iconst hX (pc := 104) (v := 0) dX7_copy_104 (by decide) ?_
  refine g_istore hX (pc := 105) (lv1 := [(4, .int 0), (3, .ref q21), (2, .ref q20), (1, .ref q1), (0, .ref a)]) dX7_copy_105 (by decide) rfl ?_
  refine g_iload hX (pc := 107) dX7_copy_107 0 rfl ?_
  refine g_aload_n hX (pc := 109) dX7_copy_109 2 rfl ?_
  refine g_alen hX (pc := 110) (sp_mem (i := 1) rfl) 5 rfl (v := 6) rfl dX7_copy_110 ?_
  refine g_icmp_ge hX (pc := 111) (tgt := 134) dX7_copy_111 rfl (fun c22 => ?_) (fun c22 => ?_)
  · exact absurd c22 (by decide)
  · refine g_aload_n hX (pc := 114) dX7_copy_114 2 rfl ?_
    refine g_iload hX (pc := 115) dX7_copy_115 0 rfl ?_
    refine g_aaldA hX (pc := 117) (sp_mem (i := 1) rfl) (y := (sr 0)) (by unfold vp_in; decide) rfl dX7_copy_117 ?_
    refine g_iconst hX (pc := 118) (v := 0) dX7_copy_118 (by decide) ?_
    refine g_aload_n hX (pc := 119) dX7_copy_119 1 rfl ?_
    refine g_iload hX (pc := 120) dX7_copy_120 0 rfl ?_
    refine g_aaldA hX (pc := 122) (sp_mem (i := 0) rfl) (y := (sr11 0)) (by unfold vp_in; decide) rfl dX7_copy_122 ?_
    refine g_iconst hX (pc := 123) (v := 0) dX7_copy_123 (by decide) ?_
    refine g_iconst hX (pc := 124) (v := 4) dX7_copy_124 (by decide) ?_
    refine g_copyi hX (pc := 125) q2051 q_ac1 q_ac2 q_ac3 (sp_mem (i := 10) rfl) 3 (cs1 := [[(q21, qA (aC E 5) 6 (va_up (va_up (va_up (va_up (va_up (va_up (fun _ => none) 0 (some (sr11 0))) 1 (some (sr11 1))) 2 (some (sr11 2))) 3 (some (sr11 3))) 4 (some (sr11 4))) 5 (some (sr11 5))))], [(q20, qA (aC E 5) 6 (va_up (va_up (va_up (va_up (va_up (va_up (fun _ => none) 0 (some (sr 0))) 1 (some (sr 1))) 2 (some (sr 2))) 3 (some (sr 3))) 4 (some (sr 4))) 5 (some (sr 5))))], [(q1, ob 6 [.ref (sr11 0), .ref (sr11 1), .ref (sr11 2), .ref (sr11 3), .int (S0 6 0), .ref (sr11 4), .ref (sr11 5)])], [(sr11 0, iA (aC E 0) 4 (va_cpy f4 f13 0 0 4))], [(sr11 1, iA (aC E 0) 4 f14)], [(sr11 2, iA (aC E 0) 4 f15)], [(sr11 3, iA (aC E 0) 4 f16)], [(sr11 4, iA (aC E 0) 4 f17)], [(sr11 5, iA (aC E 0) 4 f18)], [(a, ob 6 [.ref (sr 0), .ref (sr 1), .ref (sr 2), .ref (sr 3), .int (S 6 0), .ref (sr 4), .ref (sr 5)])], [(sr 0, iA (aC E 0) 4 f4)], [(sr 1, iA (aC E 0) 4 f5)], [(sr 2, iA (aC E 0) 4 f6)], [(sr 3, iA (aC E 0) 4 f7)], [(sr 4, iA (aC E 0) 4 f8)], [(sr 5, iA (aC E 0) 4 f9)]]) rfl (by decide) (by decide) (by decide) (by decide) (by decide) (g1 := (va_cpy f4 f13 0 0 4)) rfl rfl (Nat.le_of_ble_eq_true rfl) (Nat.le_of_ble_eq_true rfl) dX7_copy_125 ?_
    refine g_iinc hX (pc := 128) (v := 1) (lv1 := [(4, .int 1), (3, .ref q21), (2, .ref q20), (1, .ref q1), (0, .ref a)]) dX7_copy_128 0 rfl (by decide) (by decide) rfl ?_
    refine g_goto hX (pc := 131) (tgt := 107) dX7_copy_131 rfl ?_
    refine g_iload hX (pc := 107) dX7_copy_107 0 rfl ?_
    refine g_aload_n hX (pc := 109) dX7_copy_109 2 rfl ?_
    refine g_alen hX (pc := 110) (sp_mem (i := 1) rfl) 5 rfl (v := 6) rfl dX7_copy_110 ?_
    refine g_icmp_ge hX (pc := 111) (tgt := 134) dX7_copy_111 rfl (fun c23 => ?_) (fun c23 => ?_)
    · exact absurd c23 (by decide)
    · refine g_aload_n hX (pc := 114) dX7_copy_114 2 rfl ?_
      refine g_iload hX (pc := 115) dX7_copy_115 0 rfl ?_
      refine g_aaldA hX (pc := 117) (sp_mem (i := 1) rfl) (y := (sr 1)) (by unfold vp_in; decide) rfl dX7_copy_117 ?_
      refine g_iconst hX (pc := 118) (v := 0) dX7_copy_118 (by decide) ?_
      refine g_aload_n hX (pc := 119) dX7_copy_119 1 rfl ?_
      refine g_iload hX (pc := 120) dX7_copy_120 0 rfl ?_
      refine g_aaldA hX (pc := 122) (sp_mem (i := 0) rfl) (y := (sr11 1)) (by unfold vp_in; decide) rfl dX7_copy_122 ?_
      refine g_iconst hX (pc := 123) (v := 0) dX7_copy_123 (by decide) ?_
      refine g_iconst hX (pc := 124) (v := 4) dX7_copy_124 (by decide) ?_
      refine g_copyi hX (pc := 125) q2051 q_ac1 q_ac2 q_ac3 (sp_mem (i := 11) rfl) 4 (cs1 := [[(q21, qA (aC E 5) 6 (va_up (va_up (va_up (va_up (va_up (va_up (fun _ => none) 0 (some (sr11 0))) 1 (some (sr11 1))) 2 (some (sr11 2))) 3 (some (sr11 3))) 4 (some (sr11 4))) 5 (some (sr11 5))))], [(q20, qA (aC E 5) 6 (va_up (va_up (va_up (va_up (va_up (va_up (fun _ => none) 0 (some (sr 0))) 1 (some (sr 1))) 2 (some (sr 2))) 3 (some (sr 3))) 4 (some (sr 4))) 5 (some (sr 5))))], [(q1, ob 6 [.ref (sr11 0), .ref (sr11 1), .ref (sr11 2), .ref (sr11 3), .int (S0 6 0), .ref (sr11 4), .ref (sr11 5)])], [(sr11 0, iA (aC E 0) 4 (va_cpy f4 f13 0 0 4))], [(sr11 1, iA (aC E 0) 4 (va_cpy f5 f14 0 0 4))], [(sr11 2, iA (aC E 0) 4 f15)], [(sr11 3, iA (aC E 0) 4 f16)], [(sr11 4, iA (aC E 0) 4 f17)], [(sr11 5, iA (aC E 0) 4 f18)], [(a, ob 6 [.ref (sr 0), .ref (sr 1), .ref (sr 2), .ref (sr 3), .int (S 6 0), .ref (sr 4), .ref (sr 5)])], [(sr 0, iA (aC E 0) 4 f4)], [(sr 1, iA (aC E 0) 4 f5)], [(sr 2, iA (aC E 0) 4 f6)], [(sr 3, iA (aC E 0) 4 f7)], [(sr 4, iA (aC E 0) 4 f8)], [(sr 5, iA (aC E 0) 4 f9)]]) rfl (by decide) (by decide) (by decide) (by decide) (by decide) (g1 := (va_cpy f5 f14 0 0 4)) rfl rfl (Nat.le_of_ble_eq_true rfl) (Nat.le_of_ble_eq_true rfl) dX7_copy_125 ?_
      refine g_iinc hX (pc := 128) (v := 2) (lv1 := [(4, .int 2), (3, .ref q21), (2, .ref q20), (1, .ref q1), (0, .ref a)]) dX7_copy_128 0 rfl (by decide) (by decide) rfl ?_
      refine g_goto hX (pc := 131) (tgt := 107) dX7_copy_131 rfl ?_
      refine g_iload hX (pc := 107) dX7_copy_107 0 rfl ?_
      refine g_aload_n hX (pc := 109) dX7_copy_109 2 rfl ?_
      refine g_alen hX (pc := 110) (sp_mem (i := 1) rfl) 5 rfl (v := 6) rfl dX7_copy_110 ?_
      refine g_icmp_ge hX (pc := 111) (tgt := 134) dX7_copy_111 rfl (fun c24 => ?_) (fun c24 => ?_)
      · exact absurd c24 (by decide)
      · refine g_aload_n hX (pc := 114) dX7_copy_114 2 rfl ?_
        refine g_iload hX (pc := 115) dX7_copy_115 0 rfl ?_
        refine g_aaldA hX (pc := 117) (sp_mem (i := 1) rfl) (y := (sr 2)) (by unfold vp_in; decide) rfl dX7_copy_117 ?_
        refine g_iconst hX (pc := 118) (v := 0) dX7_copy_118 (by decide) ?_
        refine g_aload_n hX (pc := 119) dX7_copy_119 1 rfl ?_
        refine g_iload hX (pc := 120) dX7_copy_120 0 rfl ?_
        refine g_aaldA hX (pc := 122) (sp_mem (i := 0) rfl) (y := (sr11 2)) (by unfold vp_in; decide) rfl dX7_copy_122 ?_
        refine g_iconst hX (pc := 123) (v := 0) dX7_copy_123 (by decide) ?_
        refine g_iconst hX (pc := 124) (v := 4) dX7_copy_124 (by decide) ?_
        refine g_copyi hX (pc := 125) q2051 q_ac1 q_ac2 q_ac3 (sp_mem (i := 12) rfl) 5 (cs1 := [[(q21, qA (aC E 5) 6 (va_up (va_up (va_up (va_up (va_up (va_up (fun _ => none) 0 (some (sr11 0))) 1 (some (sr11 1))) 2 (some (sr11 2))) 3 (some (sr11 3))) 4 (some (sr11 4))) 5 (some (sr11 5))))], [(q20, qA (aC E 5) 6 (va_up (va_up (va_up (va_up (va_up (va_up (fun _ => none) 0 (some (sr 0))) 1 (some (sr 1))) 2 (some (sr 2))) 3 (some (sr 3))) 4 (some (sr 4))) 5 (some (sr 5))))], [(q1, ob 6 [.ref (sr11 0), .ref (sr11 1), .ref (sr11 2), .ref (sr11 3), .int (S0 6 0), .ref (sr11 4), .ref (sr11 5)])], [(sr11 0, iA (aC E 0) 4 (va_cpy f4 f13 0 0 4))], [(sr11 1, iA (aC E 0) 4 (va_cpy f5 f14 0 0 4))], [(sr11 2, iA (aC E 0) 4 (va_cpy f6 f15 0 0 4))], [(sr11 3, iA (aC E 0) 4 f16)], [(sr11 4, iA (aC E 0) 4 f17)], [(sr11 5, iA (aC E 0) 4 f18)], [(a, ob 6 [.ref (sr 0), .ref (sr 1), .ref (sr 2), .ref (sr 3), .int (S 6 0), .ref (sr 4), .ref (sr 5)])], [(sr 0, iA (aC E 0) 4 f4)], [(sr 1, iA (aC E 0) 4 f5)], [(sr 2, iA (aC E 0) 4 f6)], [(sr 3, iA (aC E 0) 4 f7)], [(sr 4, iA (aC E 0) 4 f8)], [(sr 5, iA (aC E 0) 4 f9)]]) rfl (by decide) (by decide) (by decide) (by decide) (by decide) (g1 := (va_cpy f6 f15 0 0 4)) rfl rfl (Nat.le_of_ble_eq_true rfl) (Nat.le_of_ble_eq_true rfl) dX7_copy_125 ?_
        refine g_iinc hX (pc := 128) (v := 3) (lv1 := [(4, .int 3), (3, .ref q21), (2, .ref q20), (1, .ref q1), (0, .ref a)]) dX7_copy_128 0 rfl (by decide) (by decide) rfl ?_
        refine g_goto hX (pc := 131) (tgt := 107) dX7_copy_131 rfl ?_
        refine g_iload hX (pc := 107) dX7_copy_107 0 rfl ?_
        refine g_aload_n hX (pc := 109) dX7_copy_109 2 rfl ?_
        refine g_alen hX (pc := 110) (sp_mem (i := 1) rfl) 5 rfl (v := 6) rfl dX7_copy_110 ?_
        refine g_icmp_ge hX (pc := 111) (tgt := 134) dX7_copy_111 rfl (fun c25 => ?_) (fun c25 => ?_)
        · exact absurd c25 (by decide)
        · refine g_aload_n hX (pc := 114) dX7_copy_114 2 rfl ?_
          refine g_iload hX (pc := 115) dX7_copy_115 0 rfl ?_
          refine g_aaldA hX (pc := 117) (sp_mem (i := 1) rfl) (y := (sr 3)) (by unfold vp_in; decide) rfl dX7_copy_117 ?_
          refine g_iconst hX (pc := 118) (v := 0) dX7_copy_118 (by decide) ?_
          refine g_aload_n hX (pc := 119) dX7_copy_119 1 rfl ?_
          refine g_iload hX (pc := 120) dX7_copy_120 0 rfl ?_
          refine g_aaldA hX (pc := 122) (sp_mem (i := 0) rfl) (y := (sr11 3)) (by unfold vp_in; decide) rfl dX7_copy_122 ?_
          refine g_iconst hX (pc := 123) (v := 0) dX7_copy_123 (by decide) ?_
          refine g_iconst hX (pc := 124) (v := 4) dX7_copy_124 (by decide) ?_
          refine g_copyi hX (pc := 125) q2051 q_ac1 q_ac2 q_ac3 (sp_mem (i := 13) rfl) 6 (cs1 := [[(q21, qA (aC E 5) 6 (va_up (va_up (va_up (va_up (va_up (va_up (fun _ => none) 0 (some (sr11 0))) 1 (some (sr11 1))) 2 (some (sr11 2))) 3 (some (sr11 3))) 4 (some (sr11 4))) 5 (some (sr11 5))))], [(q20, qA (aC E 5) 6 (va_up (va_up (va_up (va_up (va_up (va_up (fun _ => none) 0 (some (sr 0))) 1 (some (sr 1))) 2 (some (sr 2))) 3 (some (sr 3))) 4 (some (sr 4))) 5 (some (sr 5))))], [(q1, ob 6 [.ref (sr11 0), .ref (sr11 1), .ref (sr11 2), .ref (sr11 3), .int (S0 6 0), .ref (sr11 4), .ref (sr11 5)])], [(sr11 0, iA (aC E 0) 4 (va_cpy f4 f13 0 0 4))], [(sr11 1, iA (aC E 0) 4 (va_cpy f5 f14 0 0 4))], [(sr11 2, iA (aC E 0) 4 (va_cpy f6 f15 0 0 4))], [(sr11 3, iA (aC E 0) 4 (va_cpy f7 f16 0 0 4))], [(sr11 4, iA (aC E 0) 4 f17)], [(sr11 5, iA (aC E 0) 4 f18)], [(a, ob 6 [.ref (sr 0), .ref (sr 1), .ref (sr 2), .ref (sr 3), .int (S 6 0), .ref (sr 4), .ref (sr 5)])], [(sr 0, iA (aC E 0) 4 f4)], [(sr 1, iA (aC E 0) 4 f5)], [(sr 2, iA (aC E 0) 4 f6)], [(sr 3, iA (aC E 0) 4 f7)], [(sr 4, iA (aC E 0) 4 f8)], [(sr 5, iA (aC E 0) 4 f9)]]) rfl (by decide) (by decide) (by decide) (by decide) (by decide) (g1 := (va_cpy f7 f16 0 0 4)) rfl rfl (Nat.le_of_ble_eq_true rfl) (Nat.le_of_ble_eq_true rfl) dX7_copy_125 ?_
          refine g_iinc hX (pc := 128) (v := 4) (lv1 := [(4, .int 4), (3, .ref q21), (2, .ref q20), (1, .ref q1), (0, .ref a)]) dX7_copy_128 0 rfl (by decide) (by decide) rfl ?_
          refine g_goto hX (pc := 131) (tgt := 107) dX7_copy_131 rfl ?_
          refine g_iload hX (pc := 107) dX7_copy_107 0 rfl ?_
          refine g_aload_n hX (pc := 109) dX7_copy_109 2 rfl ?_
          refine g_alen hX (pc := 110) (sp_mem (i := 1) rfl) 5 rfl (v := 6) rfl dX7_copy_110 ?_
          refine g_icmp_ge hX (pc := 111) (tgt := 134) dX7_copy_111 rfl (fun c26 => ?_) (fun c26 => ?_)
          · exact absurd c26 (by decide)
          · refine g_aload_n hX (pc := 114) dX7_copy_114 2 rfl ?_
            refine g_iload hX (pc := 115) dX7_copy_115 0 rfl ?_
            refine g_aaldA hX (pc := 117) (sp_mem (i := 1) rfl) (y := (sr 4)) (by unfold vp_in; decide) rfl dX7_copy_117 ?_
            refine g_iconst hX (pc := 118) (v := 0) dX7_copy_118 (by decide) ?_
            refine g_aload_n hX (pc := 119) dX7_copy_119 1 rfl ?_
            refine g_iload hX (pc := 120) dX7_copy_120 0 rfl ?_
            refine g_aaldA hX (pc := 122) (sp_mem (i := 0) rfl) (y := (sr11 4)) (by unfold vp_in; decide) rfl dX7_copy_122 ?_
            refine g_iconst hX (pc := 123) (v := 0) dX7_copy_123 (by decide) ?_
            refine g_iconst hX (pc := 124) (v := 4) dX7_copy_124 (by decide) ?_
            refine g_copyi hX (pc := 125) q2051 q_ac1 q_ac2 q_ac3 (sp_mem (i := 14) rfl) 7 (cs1 := [[(q21, qA (aC E 5) 6 (va_up (va_up (va_up (va_up (va_up (va_up (fun _ => none) 0 (some (sr11 0))) 1 (some (sr11 1))) 2 (some (sr11 2))) 3 (some (sr11 3))) 4 (some (sr11 4))) 5 (some (sr11 5))))], [(q20, qA (aC E 5) 6 (va_up (va_up (va_up (va_up (va_up (va_up (fun _ => none) 0 (some (sr 0))) 1 (some (sr 1))) 2 (some (sr 2))) 3 (some (sr 3))) 4 (some (sr 4))) 5 (some (sr 5))))], [(q1, ob 6 [.ref (sr11 0), .ref (sr11 1), .ref (sr11 2), .ref (sr11 3), .int (S0 6 0), .ref (sr11 4), .ref (sr11 5)])], [(sr11 0, iA (aC E 0) 4 (va_cpy f4 f13 0 0 4))], [(sr11 1, iA (aC E 0) 4 (va_cpy f5 f14 0 0 4))], [(sr11 2, iA (aC E 0) 4 (va_cpy f6 f15 0 0 4))], [(sr11 3, iA (aC E 0) 4 (va_cpy f7 f16 0 0 4))], [(sr11 4, iA (aC E 0) 4 (va_cpy f8 f17 0 0 4))], [(sr11 5, iA (aC E 0) 4 f18)], [(a, ob 6 [.ref (sr 0), .ref (sr 1), .ref (sr 2), .ref (sr 3), .int (S 6 0), .ref (sr 4), .ref (sr 5)])], [(sr 0, iA (aC E 0) 4 f4)], [(sr 1, iA (aC E 0) 4 f5)], [(sr 2, iA (aC E 0) 4 f6)], [(sr 3, iA (aC E 0) 4 f7)], [(sr 4, iA (aC E 0) 4 f8)], [(sr 5, iA (aC E 0) 4 f9)]]) rfl (by decide) (by decide) (by decide) (by decide) (by decide) (g1 := (va_cpy f8 f17 0 0 4)) rfl rfl (Nat.le_of_ble_eq_true rfl) (Nat.le_of_ble_eq_true rfl) dX7_copy_125 ?_
            refine g_iinc hX (pc := 128) (v := 5) (lv1 := [(4, .int 5), (3, .ref q21), (2, .ref q20), (1, .ref q1), (0, .ref a)]) dX7_copy_128 0 rfl (by decide) (by decide) rfl ?_
            refine g_goto hX (pc := 131) (tgt := 107) dX7_copy_131 rfl ?_
            refine g_iload hX (pc := 107) dX7_copy_107 0 rfl ?_
            refine g_aload_n hX (pc := 109) dX7_copy_109 2 rfl ?_
            refine g_alen hX (pc := 110) (sp_mem (i := 1) rfl) 5 rfl (v := 6) rfl dX7_copy_110 ?_
            refine g_icmp_ge hX (pc := 111) (tgt := 134) dX7_copy_111 rfl (fun c27 => ?_) (fun c27 => ?_)
            · exact absurd c27 (by decide)
            · refine g_aload_n hX (pc := 114) dX7_copy_114 2 rfl ?_
              refine g_iload hX (pc := 115) dX7_copy_115 0 rfl ?_
              refine g_aaldA hX (pc := 117) (sp_mem (i := 1) rfl) (y := (sr 5)) (by unfold vp_in; decide) rfl dX7_copy_117 ?_
              refine g_iconst hX (pc := 118) (v := 0) dX7_copy_118 (by decide) ?_
              refine g_aload_n hX (pc := 119) dX7_copy_119 1 rfl ?_
              refine g_iload hX (pc := 120) dX7_copy_120 0 rfl ?_
              refine g_aaldA hX (pc := 122) (sp_mem (i := 0) rfl) (y := (sr11 5)) (by unfold vp_in; decide) rfl dX7_copy_122 ?_
              refine g_iconst hX (pc := 123) (v := 0) dX7_copy_123 (by decide) ?_
              refine g_iconst hX (pc := 124) (v := 4) dX7_copy_124 (by decide) ?_
              refine g_copyi hX (pc := 125) q2051 q_ac1 q_ac2 q_ac3 (sp_mem (i := 15) rfl) 8 (cs1 := [[(q21, qA (aC E 5) 6 (va_up (va_up (va_up (va_up (va_up (va_up (fun _ => none) 0 (some (sr11 0))) 1 (some (sr11 1))) 2 (some (sr11 2))) 3 (some (sr11 3))) 4 (some (sr11 4))) 5 (some (sr11 5))))], [(q20, qA (aC E 5) 6 (va_up (va_up (va_up (va_up (va_up (va_up (fun _ => none) 0 (some (sr 0))) 1 (some (sr 1))) 2 (some (sr 2))) 3 (some (sr 3))) 4 (some (sr 4))) 5 (some (sr 5))))], [(q1, ob 6 [.ref (sr11 0), .ref (sr11 1), .ref (sr11 2), .ref (sr11 3), .int (S0 6 0), .ref (sr11 4), .ref (sr11 5)])], [(sr11 0, iA (aC E 0) 4 (va_cpy f4 f13 0 0 4))], [(sr11 1, iA (aC E 0) 4 (va_cpy f5 f14 0 0 4))], [(sr11 2, iA (aC E 0) 4 (va_cpy f6 f15 0 0 4))], [(sr11 3, iA (aC E 0) 4 (va_cpy f7 f16 0 0 4))], [(sr11 4, iA (aC E 0) 4 (va_cpy f8 f17 0 0 4))], [(sr11 5, iA (aC E 0) 4 (va_cpy f9 f18 0 0 4))], [(a, ob 6 [.ref (sr 0), .ref (sr 1), .ref (sr 2), .ref (sr 3), .int (S 6 0), .ref (sr 4), .ref (sr 5)])], [(sr 0, iA (aC E 0) 4 f4)], [(sr 1, iA (aC E 0) 4 f5)], [(sr 2, iA (aC E 0) 4 f6)], [(sr 3, iA (aC E 0) 4 f7)], [(sr 4, iA (aC E 0) 4 f8)], [(sr 5, iA (aC E 0) 4 f9)]]) rfl (by decide) (by decide) (by decide) (by decide) (by decide) (g1 := (va_cpy f9 f18 0 0 4)) rfl rfl (Nat.le_of_ble_eq_true rfl) (Nat.le_of_ble_eq_true rfl) dX7_copy_125 ?_
              refine g_iinc hX (pc := 128) (v := 6) (lv1 := [(4, .int 6), (3, .ref q21), (2, .ref q20), (1, .ref q1), (0, .ref a)]) dX7_copy_128 0 rfl (by decide) (by decide) rfl ?_
              refine g_goto hX (pc := 131) (tgt := 107) dX7_copy_131 rfl ?_
              refine g_iload hX (pc := 107) dX7_copy_107 0 rfl ?_
              refine g_aload_n hX (pc := 109) dX7_copy_109 2 rfl ?_
              refine g_alen hX (pc := 110) (sp_mem (i := 1) rfl) 5 rfl (v := 6) rfl dX7_copy_110 ?_
              refine g_icmp_ge hX (pc := 111) (tgt := 134) dX7_copy_111 rfl (fun c28 => ?_) (fun c28 => ?_)
              · refine g_aload_n hX (pc := 134) dX7_copy_134 3 rfl ?_
                refine g_aload_n hX (pc := 135) dX7_copy_135 4 rfl ?_
                refine g_get hX (pc := 136) fcX7 9 rfl 4 (by decide) q1634 rfl (v := .int (S 6 0)) rfl dX7_copy_136 ?_
                refine g_put hX (pc := 139) fcX7 2 (fs1 := [.ref (sr11 0), .ref (sr11 1), .ref (sr11 2), .ref (sr11 3), .int (S 6 0), .ref (sr11 4), .ref (sr11 5)]) (cs1 := [[(q21, qA (aC E 5) 6 (va_up (va_up (va_up (va_up (va_up (va_up (fun _ => none) 0 (some (sr11 0))) 1 (some (sr11 1))) 2 (some (sr11 2))) 3 (some (sr11 3))) 4 (some (sr11 4))) 5 (some (sr11 5))))], [(q20, qA (aC E 5) 6 (va_up (va_up (va_up (va_up (va_up (va_up (fun _ => none) 0 (some (sr 0))) 1 (some (sr 1))) 2 (some (sr 2))) 3 (some (sr 3))) 4 (some (sr 4))) 5 (some (sr 5))))], [(q1, ob 6 [.ref (sr11 0), .ref (sr11 1), .ref (sr11 2), .ref (sr11 3), .int (S 6 0), .ref (sr11 4), .ref (sr11 5)])], [(sr11 0, iA (aC E 0) 4 (va_cpy f4 f13 0 0 4))], [(sr11 1, iA (aC E 0) 4 (va_cpy f5 f14 0 0 4))], [(sr11 2, iA (aC E 0) 4 (va_cpy f6 f15 0 0 4))], [(sr11 3, iA (aC E 0) 4 (va_cpy f7 f16 0 0 4))], [(sr11 4, iA (aC E 0) 4 (va_cpy f8 f17 0 0 4))], [(sr11 5, iA (aC E 0) 4 (va_cpy f9 f18 0 0 4))], [(a, ob 6 [.ref (sr 0), .ref (sr 1), .ref (sr 2), .ref (sr 3), .int (S 6 0), .ref (sr 4), .ref (sr 5)])], [(sr 0, iA (aC E 0) 4 f4)], [(sr 1, iA (aC E 0) 4 f5)], [(sr 2, iA (aC E 0) 4 f6)], [(sr 3, iA (aC E 0) 4 f7)], [(sr 4, iA (aC E 0) 4 f8)], [(sr 5, iA (aC E 0) 4 f9)]]) rfl 4 (by decide) q1634 rfl rfl rfl rfl (Nat.le_of_ble_eq_true rfl) rfl rfl dX7_copy_139 ?_
                refine g_aload_n hX (pc := 142) dX7_copy_142 3 rfl ?_
                refine g_drop (cs1 := [[(q20, qA (aC E 5) 6 (va_up (va_up (va_up (va_up (va_up (va_up (fun _ => none) 0 (some (sr 0))) 1 (some (sr 1))) 2 (some (sr 2))) 3 (some (sr 3))) 4 (some (sr 4))) 5 (some (sr 5))))], [(q1, ob 6 [.ref (sr11 0), .ref (sr11 1), .ref (sr11 2), .ref (sr11 3), .int (S 6 0), .ref (sr11 4), .ref (sr11 5)])], [(sr11 0, iA (aC E 0) 4 (va_cpy f4 f13 0 0 4))], [(sr11 1, iA (aC E 0) 4 (va_cpy f5 f14 0 0 4))], [(sr11 2, iA (aC E 0) 4 (va_cpy f6 f15 0 0 4))], [(sr11 3, iA (aC E 0) 4 (va_cpy f7 f16 0 0 4))], [(sr11 4, iA (aC E 0) 4 (va_cpy f8 f17 0 0 4))], [(sr11 5, iA (aC E 0) 4 (va_cpy f9 f18 0 0 4))], [(a, ob 6 [.ref (sr 0), .ref (sr 1), .ref (sr 2), .ref (sr 3), .int (S 6 0), .ref (sr 4), .ref (sr 5)])], [(sr 0, iA (aC E 0) 4 f4)], [(sr 1, iA (aC E 0) 4 f5)], [(sr 2, iA (aC E 0) 4 f6)], [(sr 3, iA (aC E 0) 4 f7)], [(sr 4, iA (aC E 0) 4 f8)], [(sr 5, iA (aC E 0) 4 f9)]]) [0] rfl ?_
                refine g_drop (cs1 := [[(q1, ob 6 [.ref (sr11 0), .ref (sr11 1), .ref (sr11 2), .ref (sr11 3), .int (S 6 0), .ref (sr11 4), .ref (sr11 5)])], [(sr11 0, iA (aC E 0) 4 (va_cpy f4 f13 0 0 4))], [(sr11 1, iA (aC E 0) 4 (va_cpy f5 f14 0 0 4))], [(sr11 2, iA (aC E 0) 4 (va_cpy f6 f15 0 0 4))], [(sr11 3, iA (aC E 0) 4 (va_cpy f7 f16 0 0 4))], [(sr11 4, iA (aC E 0) 4 (va_cpy f8 f17 0 0 4))], [(sr11 5, iA (aC E 0) 4 (va_cpy f9 f18 0 0 4))], [(a, ob 6 [.ref (sr 0), .ref (sr 1), .ref (sr 2), .ref (sr 3), .int (S 6 0), .ref (sr 4), .ref (sr 5)])], [(sr 0, iA (aC E 0) 4 f4)], [(sr 1, iA (aC E 0) 4 f5)], [(sr 2, iA (aC E 0) 4 f6)], [(sr 3, iA (aC E 0) 4 f7)], [(sr 4, iA (aC E 0) 4 f8)], [(sr 5, iA (aC E 0) 4 f9)]]) [0] rfl ?_
                refine g_pk [0, 0, 0, 0, 0, 0, 0] rfl ?_
                refine g_fl (cs1 := [[(q1, ob 6 [.ref (sr11 0), .ref (sr11 1), .ref (sr11 2), .ref (sr11 3), .int (S 6 0), .ref (sr11 4), .ref (sr11 5)]), (sr11 0, iA (aC E 0) 4 (va_cpy f4 f13 0 0 4)), (sr11 1, iA (aC E 0) 4 (va_cpy f5 f14 0 0 4)), (sr11 2, iA (aC E 0) 4 (va_cpy f6 f15 0 0 4)), (sr11 3, iA (aC E 0) 4 (va_cpy f7 f16 0 0 4)), (sr11 4, iA (aC E 0) 4 (va_cpy f8 f17 0 0 4)), (sr11 5, iA (aC E 0) 4 (va_cpy f9 f18 0 0 4))], [(a, ob 6 [.ref (sr 0), .ref (sr 1), .ref (sr 2), .ref (sr 3), .int (S 6 0), .ref (sr 4), .ref (sr 5)])], [(sr 0, iA (aC E 0) 4 f4)], [(sr 1, iA (aC E 0) 4 f5)], [(sr 2, iA (aC E 0) 4 f6)], [(sr 3, iA (aC E 0) 4 f7)], [(sr 4, iA (aC E 0) 4 f8)], [(sr 5, iA (aC E 0) 4 f9)]]) rfl ?_
                refine g_pk [1, 1, 1, 1, 1, 1, 1] rfl ?_
                refine g_fl (cs1 := [[(a, ob 6 [.ref (sr 0), .ref (sr 1), .ref (sr 2), .ref (sr 3), .int (S 6 0), .ref (sr 4), .ref (sr 5)]), (sr 0, iA (aC E 0) 4 f4), (sr 1, iA (aC E 0) 4 f5), (sr 2, iA (aC E 0) 4 f6), (sr 3, iA (aC E 0) 4 f7), (sr 4, iA (aC E 0) 4 f8), (sr 5, iA (aC E 0) 4 f9)], [(q1, ob 6 [.ref (sr11 0), .ref (sr11 1), .ref (sr11 2), .ref (sr11 3), .int (S 6 0), .ref (sr11 4), .ref (sr11 5)]), (sr11 0, iA (aC E 0) 4 (va_cpy f4 f13 0 0 4)), (sr11 1, iA (aC E 0) 4 (va_cpy f5 f14 0 0 4)), (sr11 2, iA (aC E 0) 4 (va_cpy f6 f15 0 0 4)), (sr11 3, iA (aC E 0) 4 (va_cpy f7 f16 0 0 4)), (sr11 4, iA (aC E 0) 4 (va_cpy f8 f17 0 0 4)), (sr11 5, iA (aC E 0) 4 (va_cpy f9 f18 0 0 4))]]) rfl ?_
                refine g_pk [1] rfl ?_
                refine g_cs (cs1 := [[(q1, ob 6 [.ref (sr11 0), .ref (sr11 1), .ref (sr11 2), .ref (sr11 3), .int (S 6 0), .ref (sr11 4), .ref (sr11 5)]), (sr11 0, iA (aC E 0) 4 (va_cpy f4 f13 0 0 4)), (sr11 1, iA (aC E 0) 4 (va_cpy f5 f14 0 0 4)), (sr11 2, iA (aC E 0) 4 (va_cpy f6 f15 0 0 4)), (sr11 3, iA (aC E 0) 4 (va_cpy f7 f16 0 0 4)), (sr11 4, iA (aC E 0) 4 (va_cpy f8 f17 0 0 4)), (sr11 5, iA (aC E 0) 4 (va_cpy f9 f18 0 0 4))], [(a, ob 6 [.ref (sr 0), .ref (sr 1), .ref (sr 2), .ref (sr 3), .int (S 6 0), .ref (sr 4), .ref (sr 5)]), (sr 0, iA (aC E 0) 4 f4), (sr 1, iA (aC E 0) 4 f5), (sr 2, iA (aC E 0) 4 f6), (sr 3, iA (aC E 0) 4 f7), (sr 4, iA (aC E 0) 4 f8), (sr 5, iA (aC E 0) 4 f9)]]) rfl ?_
                refine g_aret hX (pc := 143) hR (by first | exact Or.inl ⟨_, rfl⟩ | exact Or.inr ⟨_, rfl⟩) ?_ (Nat.le_of_ble_eq_true rfl) (Nat.le_of_ble_eq_true rfl) dX7_copy_143
                refine ⟨_, _, IsMT.mk6 (S := S) ?_ rfl, rfl, rfl⟩
                intro k hk
                obtain ⟨e0, e1, e2, e3, e4, e5⟩ := hS10 k hk
                exact ⟨(cpy4 hk).trans e0, (cpy4 hk).trans e1, (cpy4 hk).trans e2, (cpy4 hk).trans e3, (cpy4 hk).trans e4, (cpy4 hk).trans e5⟩
              · exact absurd c28 (by decide)

set_option maxHeartbeats 4000000 in
theorem mt_MS_copyF (E : EE) (l : Launch) (a : Nat) (S : PS) (fz : va_W) (hF : (MTIn E fz a S)) : Mt E l yX7_copy cX7_copy 5 (some (.object "QuorumspireModel$Store")) 2 9 43 40 [.ref a] [fz] (fun (v_ : Option Value) (cs_ : List va_W) => ∃ (q : Nat) (w1 : va_W), IsMT E q S w1 ∧ v_ = some (.ref q) ∧ cs_ = [w1, fz]) := by
  obtain ⟨w, ⟨sr, f0, f1, f2, f3, f4, f5, hS, rfl⟩, hm⟩ := hF
  have k0 := hm _ (List.Mem.head _)
  have k1 := hm _ (List.Mem.tail _ (List.Mem.head _))
  have k2 := hm _ (List.Mem.tail _ (List.Mem.tail _ (List.Mem.head _)))
  have k3 := hm _ (List.Mem.tail _ (List.Mem.tail _ (List.Mem.tail _ (List.Mem.head _))))
  have k4 := hm _ (List.Mem.tail _ (List.Mem.tail _ (List.Mem.tail _ (List.Mem.tail _ (List.Mem.head _)))))
  have k5 := hm _ (List.Mem.tail _ (List.Mem.tail _ (List.Mem.tail _ (List.Mem.tail _ (List.Mem.tail _ (List.Mem.head _))))))
  have k6 := hm _ (List.Mem.tail _ (List.Mem.tail _ (List.Mem.tail _ (List.Mem.tail _ (List.Mem.tail _ (List.Mem.tail _ (List.Mem.head _)))))))
  refine Mt.of (by decide) (Nat.le_of_ble_eq_true rfl) (fun X hX hR hin => ?_)
  refine g_lv1 (lv1 := [(0, .ref a)]) rfl ?_
  refine g_new hX (pc := 0) fcX7 q2047 q1621 q78 (fs := [.null, .null, .null, .null, .int 0, .null, .null]) (fun j hj => by match j, hj with | 0, _ => rfl | 1, _ => rfl | 2, _ => rfl | 3, _ => rfl | 4, _ => rfl | 5, _ => rfl | 6, _ => rfl | j + 7, h => exact absurd h (by omega)) (Nat.le_of_ble_eq_true rfl) (Nat.le_of_ble_eq_true rfl) dX7_copy_0 (fun q1 => ?_)
  refine g_dup hX (pc := 3) dX7_copy_3 rfl ?_
  refine g_callI hX (pc := 4) kX7_init (mt_MS_init E l q1) q2048 [0] rfl rfl rfl (Nat.le_of_ble_eq_true rfl) (Nat.le_of_ble_eq_true rfl) (Nat.le_of_ble_eq_true rfl) (Nat.le_of_ble_eq_true rfl) (Nat.le_of_ble_eq_true rfl) dX7_copy_4 (fun v w1 hp => ?_)
  obtain ⟨w2, h3, rfl, rfl⟩ := hp
  refine g_nrm (cs1 := [w2, fz]) (st1 := [.ref q1]) rfl rfl ?_
  refine g_astore_n hX (pc := 7) (lv1 := [(1, .ref q1), (0, .ref a)]) dX7_copy_7 (by decide) rfl ?_
  obtain ⟨sr4, hr5⟩ := h3
  obtain ⟨f6, f7, f8, f9, f10, f11, hS12, rfl⟩ := hr5
  refine g_fl (cs1 := [[(q1, ob 6 [.ref (sr4 0), .ref (sr4 1), .ref (sr4 2), .ref (sr4 3), .int (S0 6 0), .ref (sr4 4), .ref (sr4 5)])], [(sr4 0, iA (aC E 0) 4 f6)], [(sr4 1, iA (aC E 0) 4 f7)], [(sr4 2, iA (aC E 0) 4 f8)], [(sr4 3, iA (aC E 0) 4 f9)], [(sr4 4, iA (aC E 0) 4 f10)], [(sr4 5, iA (aC E 0) 4 f11)], fz]) rfl ?_
  refine g_bipush hX (pc := 8) (v := 6) dX7_copy_8 (by decide) ?_
  refine g_newqA hX (pc := 10) q2049 6 (by decide) (by decide) (Nat.le_of_ble_eq_true rfl) (Nat.le_of_ble_eq_true rfl) (Nat.le_of_ble_eq_true rfl) dX7_copy_10 (fun q13 => ?_)
  refine g_dup hX (pc := 13) dX7_copy_13 rfl ?_
  refine g_iconst hX (pc := 14) (v := 0) dX7_copy_14 (by decide) ?_
  refine g_aload_n hX (pc := 15) dX7_copy_15 1 rfl ?_
  refine g_getm hX (pc := 16) fcX7 (sp_in 8 rfl k0) 0 (by decide) q1626 rfl (v := .ref (sr 0)) rfl dX7_copy_16 ?_
  refine g_aastA hX (pc := 19) (f1 := (va_up (fun _ => none) 0 (some (sr 0)))) (cs1 := [[(q13, qA (aC E 5) 6 (va_up (fun _ => none) 0 (some (sr 0))))], [(q1, ob 6 [.ref (sr4 0), .ref (sr4 1), .ref (sr4 2), .ref (sr4 3), .int (S0 6 0), .ref (sr4 4), .ref (sr4 5)])], [(sr4 0, iA (aC E 0) 4 f6)], [(sr4 1, iA (aC E 0) 4 f7)], [(sr4 2, iA (aC E 0) 4 f8)], [(sr4 3, iA (aC E 0) 4 f9)], [(sr4 4, iA (aC E 0) 4 f10)], [(sr4 5, iA (aC E 0) 4 f11)], fz]) 0 rfl (sp_in 8 rfl k1) (by unfold vp_in; decide) rfl rfl dX7_copy_19 ?_
  refine g_dup hX (pc := 20) dX7_copy_20 rfl ?_
  refine g_iconst hX (pc := 21) (v := 1) dX7_copy_21 (by decide) ?_
  refine g_aload_n hX (pc := 22) dX7_copy_22 1 rfl ?_
  refine g_getm hX (pc := 23) fcX7 (sp_in 8 rfl k0) 1 (by decide) q1628 rfl (v := .ref (sr 1)) rfl dX7_copy_23 ?_
  refine g_aastA hX (pc := 26) (f1 := (va_up (va_up (fun _ => none) 0 (some (sr 0))) 1 (some (sr 1)))) (cs1 := [[(q13, qA (aC E 5) 6 (va_up (va_up (fun _ => none) 0 (some (sr 0))) 1 (some (sr 1))))], [(q1, ob 6 [.ref (sr4 0), .ref (sr4 1), .ref (sr4 2), .ref (sr4 3), .int (S0 6 0), .ref (sr4 4), .ref (sr4 5)])], [(sr4 0, iA (aC E 0) 4 f6)], [(sr4 1, iA (aC E 0) 4 f7)], [(sr4 2, iA (aC E 0) 4 f8)], [(sr4 3, iA (aC E 0) 4 f9)], [(sr4 4, iA (aC E 0) 4 f10)], [(sr4 5, iA (aC E 0) 4 f11)], fz]) 0 rfl (sp_in 8 rfl k2) (by unfold vp_in; decide) rfl rfl dX7_copy_26 ?_
  refine g_dup hX (pc := 27) dX7_copy_27 rfl ?_
  refine g_iconst hX (pc := 28) (v := 2) dX7_copy_28 (by decide) ?_
  refine g_aload_n hX (pc := 29) dX7_copy_29 1 rfl ?_
  refine g_getm hX (pc := 30) fcX7 (sp_in 8 rfl k0) 2 (by decide) q1630 rfl (v := .ref (sr 2)) rfl dX7_copy_30 ?_
  refine g_aastA hX (pc := 33) (f1 := (va_up (va_up (va_up (fun _ => none) 0 (some (sr 0))) 1 (some (sr 1))) 2 (some (sr 2)))) (cs1 := [[(q13, qA (aC E 5) 6 (va_up (va_up (va_up (fun _ => none) 0 (some (sr 0))) 1 (some (sr 1))) 2 (some (sr 2))))], [(q1, ob 6 [.ref (sr4 0), .ref (sr4 1), .ref (sr4 2), .ref (sr4 3), .int (S0 6 0), .ref (sr4 4), .ref (sr4 5)])], [(sr4 0, iA (aC E 0) 4 f6)], [(sr4 1, iA (aC E 0) 4 f7)], [(sr4 2, iA (aC E 0) 4 f8)], [(sr4 3, iA (aC E 0) 4 f9)], [(sr4 4, iA (aC E 0) 4 f10)], [(sr4 5, iA (aC E 0) 4 f11)], fz]) 0 rfl (sp_in 8 rfl k3) (by unfold vp_in; decide) rfl rfl dX7_copy_33 ?_
  refine g_dup hX (pc := 34) dX7_copy_34 rfl ?_
  refine g_iconst hX (pc := 35) (v := 3) dX7_copy_35 (by decide) ?_
  refine g_aload_n hX (pc := 36) dX7_copy_36 1 rfl ?_
  refine g_getm hX (pc := 37) fcX7 (sp_in 8 rfl k0) 3 (by decide) q1632 rfl (v := .ref (sr 3)) rfl dX7_copy_37 ?_
  refine g_aastA hX (pc := 40) (f1 := (va_up (va_up (va_up (va_up (fun _ => none) 0 (some (sr 0))) 1 (some (sr 1))) 2 (some (sr 2))) 3 (some (sr 3)))) (cs1 := [[(q13, qA (aC E 5) 6 (va_up (va_up (va_up (va_up (fun _ => none) 0 (some (sr 0))) 1 (some (sr 1))) 2 (some (sr 2))) 3 (some (sr 3))))], [(q1, ob 6 [.ref (sr4 0), .ref (sr4 1), .ref (sr4 2), .ref (sr4 3), .int (S0 6 0), .ref (sr4 4), .ref (sr4 5)])], [(sr4 0, iA (aC E 0) 4 f6)], [(sr4 1, iA (aC E 0) 4 f7)], [(sr4 2, iA (aC E 0) 4 f8)], [(sr4 3, iA (aC E 0) 4 f9)], [(sr4 4, iA (aC E 0) 4 f10)], [(sr4 5, iA (aC E 0) 4 f11)], fz]) 0 rfl (sp_in 8 rfl k4) (by unfold vp_in; decide) rfl rfl dX7_copy_40 ?_
  refine g_dup hX (pc := 41) dX7_copy_41 rfl ?_
  refine g_iconst hX (pc := 42) (v := 4) dX7_copy_42 (by decide) ?_
  refine g_aload_n hX (pc := 43) dX7_copy_43 1 rfl ?_
  refine g_getm hX (pc := 44) fcX7 (sp_in 8 rfl k0) 5 (by decide) q1636 rfl (v := .ref (sr 4)) rfl dX7_copy_44 ?_
  refine g_aastA hX (pc := 47) (f1 := (va_up (va_up (va_up (va_up (va_up (fun _ => none) 0 (some (sr 0))) 1 (some (sr 1))) 2 (some (sr 2))) 3 (some (sr 3))) 4 (some (sr 4)))) (cs1 := [[(q13, qA (aC E 5) 6 (va_up (va_up (va_up (va_up (va_up (fun _ => none) 0 (some (sr 0))) 1 (some (sr 1))) 2 (some (sr 2))) 3 (some (sr 3))) 4 (some (sr 4))))], [(q1, ob 6 [.ref (sr4 0), .ref (sr4 1), .ref (sr4 2), .ref (sr4 3), .int (S0 6 0), .ref (sr4 4), .ref (sr4 5)])], [(sr4 0, iA (aC E 0) 4 f6)], [(sr4 1, iA (aC E 0) 4 f7)], [(sr4 2, iA (aC E 0) 4 f8)], [(sr4 3, iA (aC E 0) 4 f9)], [(sr4 4, iA (aC E 0) 4 f10)], [(sr4 5, iA (aC E 0) 4 f11)], fz]) 0 rfl (sp_in 8 rfl k5) (by unfold vp_in; decide) rfl rfl dX7_copy_47 ?_
  refine g_dup hX (pc := 48) dX7_copy_48 rfl ?_
  refine g_iconst hX (pc := 49) (v := 5) dX7_copy_49 (by decide) ?_
  refine g_aload_n hX (pc := 50) dX7_copy_50 1 rfl ?_
  refine g_getm hX (pc := 51) fcX7 (sp_in 8 rfl k0) 6 (by decide) q1637 rfl (v := .ref (sr 5)) rfl dX7_copy_51 ?_
  refine g_aastA hX (pc := 54) (f1 := (va_up (va_up (va_up (va_up (va_up (va_up (fun _ => none) 0 (some (sr 0))) 1 (some (sr 1))) 2 (some (sr 2))) 3 (some (sr 3))) 4 (some (sr 4))) 5 (some (sr 5)))) (cs1 := [[(q13, qA (aC E 5) 6 (va_up (va_up (va_up (va_up (va_up (va_up (fun _ => none) 0 (some (sr 0))) 1 (some (sr 1))) 2 (some (sr 2))) 3 (some (sr 3))) 4 (some (sr 4))) 5 (some (sr 5))))], [(q1, ob 6 [.ref (sr4 0), .ref (sr4 1), .ref (sr4 2), .ref (sr4 3), .int (S0 6 0), .ref (sr4 4), .ref (sr4 5)])], [(sr4 0, iA (aC E 0) 4 f6)], [(sr4 1, iA (aC E 0) 4 f7)], [(sr4 2, iA (aC E 0) 4 f8)], [(sr4 3, iA (aC E 0) 4 f9)], [(sr4 4, iA (aC E 0) 4 f10)], [(sr4 5, iA (aC E 0) 4 f11)], fz]) 0 rfl (sp_in 8 rfl k6) (by unfold vp_in; decide) rfl rfl dX7_copy_54 ?_
  refine g_astore_n hX (pc := 55) (lv1 := [(2, .ref q13), (1, .ref q1), (0, .ref a)]) dX7_copy_55 (by decide) rfl ?_
  refine g_bipush hX (pc := 56) (v := 6) dX7_copy_56 (by decide) ?_
  refine g_newqA hX (pc := 58) q2049 6 (by decide) (by decide) (Nat.le_of_ble_eq_true rfl) (Nat.le_of_ble_eq_true rfl) (Nat.le_of_ble_eq_true rfl) dX7_copy_58 (fun q14 => ?_)
  refine g_dup hX (pc := 61) dX7_copy_61 rfl ?_
  refine g_iconst hX (pc := 62) (v := 0) dX7_copy_62 (by decide) ?_
  refine g_aload_n hX (pc := 63) dX7_copy_63 1 rfl ?_
  refine g_get hX (pc := 64) fcX7 2 rfl 0 (by decide) q1626 rfl (v := .ref (sr4 0)) rfl dX7_copy_64 ?_
  refine g_aastA hX (pc := 67) (f1 := (va_up (fun _ => none) 0 (some (sr4 0)))) (cs1 := [[(q14, qA (aC E 5) 6 (va_up (fun _ => none) 0 (some (sr4 0))))], [(q13, qA (aC E 5) 6 (va_up (va_up (va_up (va_up (va_up (va_up (fun _ => none) 0 (some (sr 0))) 1 (some (sr 1))) 2 (some (sr 2))) 3 (some (sr 3))) 4 (some (sr 4))) 5 (some (sr 5))))], [(q1, ob 6 [.ref (sr4 0), .ref (sr4 1), .ref (sr4 2), .ref (sr4 3), .int (S0 6 0), .ref (sr4 4), .ref (sr4 5)])], [(sr4 0, iA (aC E 0) 4 f6)], [(sr4 1, iA (aC E 0) 4 f7)], [(sr4 2, iA (aC E 0) 4 f8)], [(sr4 3, iA (aC E 0) 4 f9)], [(sr4 4, iA (aC E 0) 4 f10)], [(sr4 5, iA (aC E 0) 4 f11)], fz]) 0 rfl (sp_mem (i := 3) rfl) (by unfold vp_in; decide) rfl rfl dX7_copy_67 ?_
  refine g_dup hX (pc := 68) dX7_copy_68 rfl ?_
  refine g_iconst hX (pc := 69) (v := 1) dX7_copy_69 (by decide) ?_
  refine g_aload_n hX (pc := 70) dX7_copy_70 1 rfl ?_
  refine g_get hX (pc := 71) fcX7 2 rfl 1 (by decide) q1628 rfl (v := .ref (sr4 1)) rfl dX7_copy_71 ?_
  refine g_aastA hX (pc := 74) (f1 := (va_up (va_up (fun _ => none) 0 (some (sr4 0))) 1 (some (sr4 1)))) (cs1 := [[(q14, qA (aC E 5) 6 (va_up (va_up (fun _ => none) 0 (some (sr4 0))) 1 (some (sr4 1))))], [(q13, qA (aC E 5) 6 (va_up (va_up (va_up (va_up (va_up (va_up (fun _ => none) 0 (some (sr 0))) 1 (some (sr 1))) 2 (some (sr 2))) 3 (some (sr 3))) 4 (some (sr 4))) 5 (some (sr 5))))], [(q1, ob 6 [.ref (sr4 0), .ref (sr4 1), .ref (sr4 2), .ref (sr4 3), .int (S0 6 0), .ref (sr4 4), .ref (sr4 5)])], [(sr4 0, iA (aC E 0) 4 f6)], [(sr4 1, iA (aC E 0) 4 f7)], [(sr4 2, iA (aC E 0) 4 f8)], [(sr4 3, iA (aC E 0) 4 f9)], [(sr4 4, iA (aC E 0) 4 f10)], [(sr4 5, iA (aC E 0) 4 f11)], fz]) 0 rfl (sp_mem (i := 4) rfl) (by unfold vp_in; decide) rfl rfl dX7_copy_74 ?_
  refine g_dup hX (pc := 75) dX7_copy_75 rfl ?_
  refine g_iconst hX (pc := 76) (v := 2) dX7_copy_76 (by decide) ?_
  refine g_aload_n hX (pc := 77) dX7_copy_77 1 rfl ?_
  refine g_get hX (pc := 78) fcX7 2 rfl 2 (by decide) q1630 rfl (v := .ref (sr4 2)) rfl dX7_copy_78 ?_
  refine g_aastA hX (pc := 81) (f1 := (va_up (va_up (va_up (fun _ => none) 0 (some (sr4 0))) 1 (some (sr4 1))) 2 (some (sr4 2)))) (cs1 := [[(q14, qA (aC E 5) 6 (va_up (va_up (va_up (fun _ => none) 0 (some (sr4 0))) 1 (some (sr4 1))) 2 (some (sr4 2))))], [(q13, qA (aC E 5) 6 (va_up (va_up (va_up (va_up (va_up (va_up (fun _ => none) 0 (some (sr 0))) 1 (some (sr 1))) 2 (some (sr 2))) 3 (some (sr 3))) 4 (some (sr 4))) 5 (some (sr 5))))], [(q1, ob 6 [.ref (sr4 0), .ref (sr4 1), .ref (sr4 2), .ref (sr4 3), .int (S0 6 0), .ref (sr4 4), .ref (sr4 5)])], [(sr4 0, iA (aC E 0) 4 f6)], [(sr4 1, iA (aC E 0) 4 f7)], [(sr4 2, iA (aC E 0) 4 f8)], [(sr4 3, iA (aC E 0) 4 f9)], [(sr4 4, iA (aC E 0) 4 f10)], [(sr4 5, iA (aC E 0) 4 f11)], fz]) 0 rfl (sp_mem (i := 5) rfl) (by unfold vp_in; decide) rfl rfl dX7_copy_81 ?_
  refine g_dup hX (pc := 82) dX7_copy_82 rfl ?_
  refine g_iconst hX (pc := 83) (v := 3) dX7_copy_83 (by decide) ?_
  refine g_aload_n hX (pc := 84) dX7_copy_84 1 rfl ?_
  refine g_get hX (pc := 85) fcX7 2 rfl 3 (by decide) q1632 rfl (v := .ref (sr4 3)) rfl dX7_copy_85 ?_
  refine g_aastA hX (pc := 88) (f1 := (va_up (va_up (va_up (va_up (fun _ => none) 0 (some (sr4 0))) 1 (some (sr4 1))) 2 (some (sr4 2))) 3 (some (sr4 3)))) (cs1 := [[(q14, qA (aC E 5) 6 (va_up (va_up (va_up (va_up (fun _ => none) 0 (some (sr4 0))) 1 (some (sr4 1))) 2 (some (sr4 2))) 3 (some (sr4 3))))], [(q13, qA (aC E 5) 6 (va_up (va_up (va_up (va_up (va_up (va_up (fun _ => none) 0 (some (sr 0))) 1 (some (sr 1))) 2 (some (sr 2))) 3 (some (sr 3))) 4 (some (sr 4))) 5 (some (sr 5))))], [(q1, ob 6 [.ref (sr4 0), .ref (sr4 1), .ref (sr4 2), .ref (sr4 3), .int (S0 6 0), .ref (sr4 4), .ref (sr4 5)])], [(sr4 0, iA (aC E 0) 4 f6)], [(sr4 1, iA (aC E 0) 4 f7)], [(sr4 2, iA (aC E 0) 4 f8)], [(sr4 3, iA (aC E 0) 4 f9)], [(sr4 4, iA (aC E 0) 4 f10)], [(sr4 5, iA (aC E 0) 4 f11)], fz]) 0 rfl (sp_mem (i := 6) rfl) (by unfold vp_in; decide) rfl rfl dX7_copy_88 ?_
  refine g_dup hX (pc := 89) dX7_copy_89 rfl ?_
  refine g_iconst hX (pc := 90) (v := 4) dX7_copy_90 (by decide) ?_
  refine g_aload_n hX (pc := 91) dX7_copy_91 1 rfl ?_
  refine g_get hX (pc := 92) fcX7 2 rfl 5 (by decide) q1636 rfl (v := .ref (sr4 4)) rfl dX7_copy_92 ?_
  refine g_aastA hX (pc := 95) (f1 := (va_up (va_up (va_up (va_up (va_up (fun _ => none) 0 (some (sr4 0))) 1 (some (sr4 1))) 2 (some (sr4 2))) 3 (some (sr4 3))) 4 (some (sr4 4)))) (cs1 := [[(q14, qA (aC E 5) 6 (va_up (va_up (va_up (va_up (va_up (fun _ => none) 0 (some (sr4 0))) 1 (some (sr4 1))) 2 (some (sr4 2))) 3 (some (sr4 3))) 4 (some (sr4 4))))], [(q13, qA (aC E 5) 6 (va_up (va_up (va_up (va_up (va_up (va_up (fun _ => none) 0 (some (sr 0))) 1 (some (sr 1))) 2 (some (sr 2))) 3 (some (sr 3))) 4 (some (sr 4))) 5 (some (sr 5))))], [(q1, ob 6 [.ref (sr4 0), .ref (sr4 1), .ref (sr4 2), .ref (sr4 3), .int (S0 6 0), .ref (sr4 4), .ref (sr4 5)])], [(sr4 0, iA (aC E 0) 4 f6)], [(sr4 1, iA (aC E 0) 4 f7)], [(sr4 2, iA (aC E 0) 4 f8)], [(sr4 3, iA (aC E 0) 4 f9)], [(sr4 4, iA (aC E 0) 4 f10)], [(sr4 5, iA (aC E 0) 4 f11)], fz]) 0 rfl (sp_mem (i := 7) rfl) (by unfold vp_in; decide) rfl rfl dX7_copy_95 ?_
  refine g_dup hX (pc := 96) dX7_copy_96 rfl ?_
  refine g_iconst hX (pc := 97) (v := 5) dX7_copy_97 (by decide) ?_
  refine g_aload_n hX (pc := 98) dX7_copy_98 1 rfl ?_
  refine g_get hX (pc := 99) fcX7 2 rfl 6 (by decide) q1637 rfl (v := .ref (sr4 5)) rfl dX7_copy_99 ?_
  refine g_aastA hX (pc := 102) (f1 := (va_up (va_up (va_up (va_up (va_up (va_up (fun _ => none) 0 (some (sr4 0))) 1 (some (sr4 1))) 2 (some (sr4 2))) 3 (some (sr4 3))) 4 (some (sr4 4))) 5 (some (sr4 5)))) (cs1 := [[(q14, qA (aC E 5) 6 (va_up (va_up (va_up (va_up (va_up (va_up (fun _ => none) 0 (some (sr4 0))) 1 (some (sr4 1))) 2 (some (sr4 2))) 3 (some (sr4 3))) 4 (some (sr4 4))) 5 (some (sr4 5))))], [(q13, qA (aC E 5) 6 (va_up (va_up (va_up (va_up (va_up (va_up (fun _ => none) 0 (some (sr 0))) 1 (some (sr 1))) 2 (some (sr 2))) 3 (some (sr 3))) 4 (some (sr 4))) 5 (some (sr 5))))], [(q1, ob 6 [.ref (sr4 0), .ref (sr4 1), .ref (sr4 2), .ref (sr4 3), .int (S0 6 0), .ref (sr4 4), .ref (sr4 5)])], [(sr4 0, iA (aC E 0) 4 f6)], [(sr4 1, iA (aC E 0) 4 f7)], [(sr4 2, iA (aC E 0) 4 f8)], [(sr4 3, iA (aC E 0) 4 f9)], [(sr4 4, iA (aC E 0) 4 f10)], [(sr4 5, iA (aC E 0) 4 f11)], fz]) 0 rfl (sp_mem (i := 8) rfl) (by unfold vp_in; decide) rfl rfl dX7_copy_102 ?_
  refine g_astore_n hX (pc := 103) (lv1 := [(3, .ref q14), (2, .ref q13), (1, .ref q1), (0, .ref a)]) dX7_copy_103 (by decide) rfl ?_
  refine g_iconst hX (pc := 104) (v := 0) dX7_copy_104 (by decide) ?_
  refine g_istore hX (pc := 105) (lv1 := [(4, .int 0), (3, .ref q14), (2, .ref q13), (1, .ref q1), (0, .ref a)]) dX7_copy_105 (by decide) rfl ?_
  refine g_iload hX (pc := 107) dX7_copy_107 0 rfl ?_
  refine g_aload_n hX (pc := 109) dX7_copy_109 2 rfl ?_
  refine g_alen hX (pc := 110) (sp_mem (i := 1) rfl) 5 rfl (v := 6) rfl dX7_copy_110 ?_
  refine g_icmp_ge hX (pc := 111) (tgt := 134) dX7_copy_111 rfl (fun c15 => ?_) (fun c15 => ?_)
  · exact absurd c15 (by decide)
  · refine g_aload_n hX (pc := 114) dX7_copy_114 2 rfl ?_
    refine g_iload hX (pc := 115) dX7_copy_115 0 rfl ?_
    refine g_aaldA hX (pc := 117) (sp_mem (i := 1) rfl) (y := (sr 0)) (by unfold vp_in; decide) rfl dX7_copy_117 ?_
    refine g_iconst hX (pc := 118) (v := 0) dX7_copy_118 (by decide) ?_
    refine g_aload_n hX (pc := 119) dX7_copy_119 1 rfl ?_
    refine g_iload hX (pc := 120) dX7_copy_120 0 rfl ?_
    refine g_aaldA hX (pc := 122) (sp_mem (i := 0) rfl) (y := (sr4 0)) (by unfold vp_in; decide) rfl dX7_copy_122 ?_
    refine g_iconst hX (pc := 123) (v := 0) dX7_copy_123 (by decide) ?_
    refine g_iconst hX (pc := 124) (v := 4) dX7_copy_124 (by decide) ?_
    refine g_copyi hX (pc := 125) q2051 q_ac1 q_ac2 q_ac3 (sp_in 9 rfl k1) 3 (cs1 := [[(q14, qA (aC E 5) 6 (va_up (va_up (va_up (va_up (va_up (va_up (fun _ => none) 0 (some (sr4 0))) 1 (some (sr4 1))) 2 (some (sr4 2))) 3 (some (sr4 3))) 4 (some (sr4 4))) 5 (some (sr4 5))))], [(q13, qA (aC E 5) 6 (va_up (va_up (va_up (va_up (va_up (va_up (fun _ => none) 0 (some (sr 0))) 1 (some (sr 1))) 2 (some (sr 2))) 3 (some (sr 3))) 4 (some (sr 4))) 5 (some (sr 5))))], [(q1, ob 6 [.ref (sr4 0), .ref (sr4 1), .ref (sr4 2), .ref (sr4 3), .int (S0 6 0), .ref (sr4 4), .ref (sr4 5)])], [(sr4 0, iA (aC E 0) 4 (va_cpy f0 f6 0 0 4))], [(sr4 1, iA (aC E 0) 4 f7)], [(sr4 2, iA (aC E 0) 4 f8)], [(sr4 3, iA (aC E 0) 4 f9)], [(sr4 4, iA (aC E 0) 4 f10)], [(sr4 5, iA (aC E 0) 4 f11)], fz]) rfl (by decide) (by decide) (by decide) (by decide) (by decide) (g1 := (va_cpy f0 f6 0 0 4)) rfl rfl (Nat.le_of_ble_eq_true rfl) (Nat.le_of_ble_eq_true rfl) dX7_copy_125 ?_
    refine g_iinc hX (pc := 128) (v := 1) (lv1 := [(4, .int 1), (3, .ref q14), (2, .ref q13), (1, .ref q1), (0, .ref a)]) dX7_copy_128 0 rfl (by decide) (by decide) rfl ?_
    refine g_goto hX (pc := 131) (tgt := 107) dX7_copy_131 rfl ?_
    refine g_iload hX (pc := 107) dX7_copy_107 0 rfl ?_
    refine g_aload_n hX (pc := 109) dX7_copy_109 2 rfl ?_
    refine g_alen hX (pc := 110) (sp_mem (i := 1) rfl) 5 rfl (v := 6) rfl dX7_copy_110 ?_
    refine g_icmp_ge hX (pc := 111) (tgt := 134) dX7_copy_111 rfl (fun c16 => ?_) (fun c16 => ?_)
    · exact absurd c16 (by decide)
    · refine g_aload_n hX (pc := 114) dX7_copy_114 2 rfl ?_
      refine g_iload hX (pc := 115) dX7_copy_115 0 rfl ?_
      refine g_aaldA hX (pc := 117) (sp_mem (i := 1) rfl) (y := (sr 1)) (by unfold vp_in; decide) rfl dX7_copy_117 ?_
      refine g_iconst hX (pc := 118) (v := 0) dX7_copy_118 (by decide) ?_
      refine g_aload_n hX (pc := 119) dX7_copy_119 1 rfl ?_
      refine g_iload hX (pc := 120) dX7_copy_120 0 rfl ?_
      refine g_aaldA hX (pc := 122) (sp_mem (i := 0) rfl) (y := (sr4 1)) (by unfold vp_in; decide) rfl dX7_copy_122 ?_
      refine g_iconst hX (pc := 123) (v := 0) dX7_copy_123 (by decide) ?_
      refine g_iconst hX (pc := 124) (v := 4) dX7_copy_124 (by decide) ?_
      refine g_copyi hX (pc := 125) q2051 q_ac1 q_ac2 q_ac3 (sp_in 9 rfl k2) 4 (cs1 := [[(q14, qA (aC E 5) 6 (va_up (va_up (va_up (va_up (va_up (va_up (fun _ => none) 0 (some (sr4 0))) 1 (some (sr4 1))) 2 (some (sr4 2))) 3 (some (sr4 3))) 4 (some (sr4 4))) 5 (some (sr4 5))))], [(q13, qA (aC E 5) 6 (va_up (va_up (va_up (va_up (va_up (va_up (fun _ => none) 0 (some (sr 0))) 1 (some (sr 1))) 2 (some (sr 2))) 3 (some (sr 3))) 4 (some (sr 4))) 5 (some (sr 5))))], [(q1, ob 6 [.ref (sr4 0), .ref (sr4 1), .ref (sr4 2), .ref (sr4 3), .int (S0 6 0), .ref (sr4 4), .ref (sr4 5)])], [(sr4 0, iA (aC E 0) 4 (va_cpy f0 f6 0 0 4))], [(sr4 1, iA (aC E 0) 4 (va_cpy f1 f7 0 0 4))], [(sr4 2, iA (aC E 0) 4 f8)], [(sr4 3, iA (aC E 0) 4 f9)], [(sr4 4, iA (aC E 0) 4 f10)], [(sr4 5, iA (aC E 0) 4 f11)], fz]) rfl (by decide) (by decide) (by decide) (by decide) (by decide) (g1 := (va_cpy f1 f7 0 0 4)) rfl rfl (Nat.le_of_ble_eq_true rfl) (Nat.le_of_ble_eq_true rfl) dX7_copy_125 ?_
      refine g_iinc hX (pc := 128) (v := 2) (lv1 := [(4, .int 2), (3, .ref q14), (2, .ref q13), (1, .ref q1), (0, .ref a)]) dX7_copy_128 0 rfl (by decide) (by decide) rfl ?_
      refine g_goto hX (pc := 131) (tgt := 107) dX7_copy_131 rfl ?_
      refine g_iload hX (pc := 107) dX7_copy_107 0 rfl ?_
      refine g_aload_n hX (pc := 109) dX7_copy_109 2 rfl ?_
      refine g_alen hX (pc := 110) (sp_mem (i := 1) rfl) 5 rfl (v := 6) rfl dX7_copy_110 ?_
      refine g_icmp_ge hX (pc := 111) (tgt := 134) dX7_copy_111 rfl (fun c17 => ?_) (fun c17 => ?_)
      · exact absurd c17 (by decide)
      · refine g_aload_n hX (pc := 114) dX7_copy_114 2 rfl ?_
        refine g_iload hX (pc := 115) dX7_copy_115 0 rfl ?_
        refine g_aaldA hX (pc := 117) (sp_mem (i := 1) rfl) (y := (sr 2)) (by unfold vp_in; decide) rfl dX7_copy_117 ?_
        refine g_iconst hX (pc := 118) (v := 0) dX7_copy_118 (by decide) ?_
        refine g_aload_n hX (pc := 119) dX7_copy_119 1 rfl ?_
        refine g_iload hX (pc := 120) dX7_copy_120 0 rfl ?_
        refine g_aaldA hX (pc := 122) (sp_mem (i := 0) rfl) (y := (sr4 2)) (by unfold vp_in; decide) rfl dX7_copy_122 ?_
        refine g_iconst hX (pc := 123) (v := 0) dX7_copy_123 (by decide) ?_
        refine g_iconst hX (pc := 124) (v := 4) dX7_copy_124 (by decide) ?_
        refine g_copyi hX (pc := 125) q2051 q_ac1 q_ac2 q_ac3 (sp_in 9 rfl k3) 5 (cs1 := [[(q14, qA (aC E 5) 6 (va_up (va_up (va_up (va_up (va_up (va_up (fun _ => none) 0 (some (sr4 0))) 1 (some (sr4 1))) 2 (some (sr4 2))) 3 (some (sr4 3))) 4 (some (sr4 4))) 5 (some (sr4 5))))], [(q13, qA (aC E 5) 6 (va_up (va_up (va_up (va_up (va_up (va_up (fun _ => none) 0 (some (sr 0))) 1 (some (sr 1))) 2 (some (sr 2))) 3 (some (sr 3))) 4 (some (sr 4))) 5 (some (sr 5))))], [(q1, ob 6 [.ref (sr4 0), .ref (sr4 1), .ref (sr4 2), .ref (sr4 3), .int (S0 6 0), .ref (sr4 4), .ref (sr4 5)])], [(sr4 0, iA (aC E 0) 4 (va_cpy f0 f6 0 0 4))], [(sr4 1, iA (aC E 0) 4 (va_cpy f1 f7 0 0 4))], [(sr4 2, iA (aC E 0) 4 (va_cpy f2 f8 0 0 4))], [(sr4 3, iA (aC E 0) 4 f9)], [(sr4 4, iA (aC E 0) 4 f10)], [(sr4 5, iA (aC E 0) 4 f11)], fz]) rfl (by decide) (by decide) (by decide) (by decide) (by decide) (g1 := (va_cpy f2 f8 0 0 4)) rfl rfl (Nat.le_of_ble_eq_true rfl) (Nat.le_of_ble_eq_true rfl) dX7_copy_125 ?_
        refine g_iinc hX (pc := 128) (v := 3) (lv1 := [(4, .int 3), (3, .ref q14), (2, .ref q13), (1, .ref q1), (0, .ref a)]) dX7_copy_128 0 rfl (by decide) (by decide) rfl ?_
        refine g_goto hX (pc := 131) (tgt := 107) dX7_copy_131 rfl ?_
        refine g_iload hX (pc := 107) dX7_copy_107 0 rfl ?_
        refine g_aload_n hX (pc := 109) dX7_copy_109 2 rfl ?_
        refine g_alen hX (pc := 110) (sp_mem (i := 1) rfl) 5 rfl (v := 6) rfl dX7_copy_110 ?_
        refine g_icmp_ge hX (pc := 111) (tgt := 134) dX7_copy_111 rfl (fun c18 => ?_) (fun c18 => ?_)
        · exact absurd c18 (by decide)
        · refine g_aload_n hX (pc := 114) dX7_copy_114 2 rfl ?_
          refine g_iload hX (pc := 115) dX7_copy_115 0 rfl ?_
          refine g_aaldA hX (pc := 117) (sp_mem (i := 1) rfl) (y := (sr 3)) (by unfold vp_in; decide) rfl dX7_copy_117 ?_
          refine g_iconst hX (pc := 118) (v := 0) dX7_copy_118 (by decide) ?_
          refine g_aload_n hX (pc := 119) dX7_copy_119 1 rfl ?_
          refine g_iload hX (pc := 120) dX7_copy_120 0 rfl ?_
          refine g_aaldA hX (pc := 122) (sp_mem (i := 0) rfl) (y := (sr4 3)) (by unfold vp_in; decide) rfl dX7_copy_122 ?_
          refine g_iconst hX (pc := 123) (v := 0) dX7_copy_123 (by decide) ?_
          refine g_iconst hX (pc := 124) (v := 4) dX7_copy_124 (by decide) ?_
          refine g_copyi hX (pc := 125) q2051 q_ac1 q_ac2 q_ac3 (sp_in 9 rfl k4) 6 (cs1 := [[(q14, qA (aC E 5) 6 (va_up (va_up (va_up (va_up (va_up (va_up (fun _ => none) 0 (some (sr4 0))) 1 (some (sr4 1))) 2 (some (sr4 2))) 3 (some (sr4 3))) 4 (some (sr4 4))) 5 (some (sr4 5))))], [(q13, qA (aC E 5) 6 (va_up (va_up (va_up (va_up (va_up (va_up (fun _ => none) 0 (some (sr 0))) 1 (some (sr 1))) 2 (some (sr 2))) 3 (some (sr 3))) 4 (some (sr 4))) 5 (some (sr 5))))], [(q1, ob 6 [.ref (sr4 0), .ref (sr4 1), .ref (sr4 2), .ref (sr4 3), .int (S0 6 0), .ref (sr4 4), .ref (sr4 5)])], [(sr4 0, iA (aC E 0) 4 (va_cpy f0 f6 0 0 4))], [(sr4 1, iA (aC E 0) 4 (va_cpy f1 f7 0 0 4))], [(sr4 2, iA (aC E 0) 4 (va_cpy f2 f8 0 0 4))], [(sr4 3, iA (aC E 0) 4 (va_cpy f3 f9 0 0 4))], [(sr4 4, iA (aC E 0) 4 f10)], [(sr4 5, iA (aC E 0) 4 f11)], fz]) rfl (by decide) (by decide) (by decide) (by decide) (by decide) (g1 := (va_cpy f3 f9 0 0 4)) rfl rfl (Nat.le_of_ble_eq_true rfl) (Nat.le_of_ble_eq_true rfl) dX7_copy_125 ?_
          refine g_iinc hX (pc := 128) (v := 4) (lv1 := [(4, .int 4), (3, .ref q14), (2, .ref q13), (1, .ref q1), (0, .ref a)]) dX7_copy_128 0 rfl (by decide) (by decide) rfl ?_
          refine g_goto hX (pc := 131) (tgt := 107) dX7_copy_131 rfl ?_
          refine g_iload hX (pc := 107) dX7_copy_107 0 rfl ?_
          refine g_aload_n hX (pc := 109) dX7_copy_109 2 rfl ?_
          refine g_alen hX (pc := 110) (sp_mem (i := 1) rfl) 5 rfl (v := 6) rfl dX7_copy_110 ?_
          refine g_icmp_ge hX (pc := 111) (tgt := 134) dX7_copy_111 rfl (fun c19 => ?_) (fun c19 => ?_)
          · exact absurd c19 (by decide)
          · refine g_aload_n hX (pc := 114) dX7_copy_114 2 rfl ?_
            refine g_iload hX (pc := 115) dX7_copy_115 0 rfl ?_
            refine g_aaldA hX (pc := 117) (sp_mem (i := 1) rfl) (y := (sr 4)) (by unfold vp_in; decide) rfl dX7_copy_117 ?_
            refine g_iconst hX (pc := 118) (v := 0) dX7_copy_118 (by decide) ?_
            refine g_aload_n hX (pc := 119) dX7_copy_119 1 rfl ?_
            refine g_iload hX (pc := 120) dX7_copy_120 0 rfl ?_
            refine g_aaldA hX (pc := 122) (sp_mem (i := 0) rfl) (y := (sr4 4)) (by unfold vp_in; decide) rfl dX7_copy_122 ?_
            refine g_iconst hX (pc := 123) (v := 0) dX7_copy_123 (by decide) ?_
            refine g_iconst hX (pc := 124) (v := 4) dX7_copy_124 (by decide) ?_
            refine g_copyi hX (pc := 125) q2051 q_ac1 q_ac2 q_ac3 (sp_in 9 rfl k5) 7 (cs1 := [[(q14, qA (aC E 5) 6 (va_up (va_up (va_up (va_up (va_up (va_up (fun _ => none) 0 (some (sr4 0))) 1 (some (sr4 1))) 2 (some (sr4 2))) 3 (some (sr4 3))) 4 (some (sr4 4))) 5 (some (sr4 5))))], [(q13, qA (aC E 5) 6 (va_up (va_up (va_up (va_up (va_up (va_up (fun _ => none) 0 (some (sr 0))) 1 (some (sr 1))) 2 (some (sr 2))) 3 (some (sr 3))) 4 (some (sr 4))) 5 (some (sr 5))))], [(q1, ob 6 [.ref (sr4 0), .ref (sr4 1), .ref (sr4 2), .ref (sr4 3), .int (S0 6 0), .ref (sr4 4), .ref (sr4 5)])], [(sr4 0, iA (aC E 0) 4 (va_cpy f0 f6 0 0 4))], [(sr4 1, iA (aC E 0) 4 (va_cpy f1 f7 0 0 4))], [(sr4 2, iA (aC E 0) 4 (va_cpy f2 f8 0 0 4))], [(sr4 3, iA (aC E 0) 4 (va_cpy f3 f9 0 0 4))], [(sr4 4, iA (aC E 0) 4 (va_cpy f4 f10 0 0 4))], [(sr4 5, iA (aC E 0) 4 f11)], fz]) rfl (by decide) (by decide) (by decide) (by decide) (by decide) (g1 := (va_cpy f4 f10 0 0 4)) rfl rfl (Nat.le_of_ble_eq_true rfl) (Nat.le_of_ble_eq_true rfl) dX7_copy_125 ?_
            refine g_iinc hX (pc := 128) (v := 5) (lv1 := [(4, .int 5), (3, .ref q14), (2, .ref q13), (1, .ref q1), (0, .ref a)]) dX7_copy_128 0 rfl (by decide) (by decide) rfl ?_
            refine g_goto hX (pc := 131) (tgt := 107) dX7_copy_131 rfl ?_
            refine g_iload hX (pc := 107) dX7_copy_107 0 rfl ?_
            refine g_aload_n hX (pc := 109) dX7_copy_109 2 rfl ?_
            refine g_alen hX (pc := 110) (sp_mem (i := 1) rfl) 5 rfl (v := 6) rfl dX7_copy_110 ?_
            refine g_icmp_ge hX (pc := 111) (tgt := 134) dX7_copy_111 rfl (fun c20 => ?_) (fun c20 => ?_)
            · exact absurd c20 (by decide)
            · refine g_aload_n hX (pc := 114) dX7_copy_114 2 rfl ?_
              refine g_iload hX (pc := 115) dX7_copy_115 0 rfl ?_
              refine g_aaldA hX (pc := 117) (sp_mem (i := 1) rfl) (y := (sr 5)) (by unfold vp_in; decide) rfl dX7_copy_117 ?_
              refine g_iconst hX (pc := 118) (v := 0) dX7_copy_118 (by decide) ?_
              refine g_aload_n hX (pc := 119) dX7_copy_119 1 rfl ?_
              refine g_iload hX (pc := 120) dX7_copy_120 0 rfl ?_
              refine g_aaldA hX (pc := 122) (sp_mem (i := 0) rfl) (y := (sr4 5)) (by unfold vp_in; decide) rfl dX7_copy_122 ?_
              refine g_iconst hX (pc := 123) (v := 0) dX7_copy_123 (by decide) ?_
              refine g_iconst hX (pc := 124) (v := 4) dX7_copy_124 (by decide) ?_
              refine g_copyi hX (pc := 125) q2051 q_ac1 q_ac2 q_ac3 (sp_in 9 rfl k6) 8 (cs1 := [[(q14, qA (aC E 5) 6 (va_up (va_up (va_up (va_up (va_up (va_up (fun _ => none) 0 (some (sr4 0))) 1 (some (sr4 1))) 2 (some (sr4 2))) 3 (some (sr4 3))) 4 (some (sr4 4))) 5 (some (sr4 5))))], [(q13, qA (aC E 5) 6 (va_up (va_up (va_up (va_up (va_up (va_up (fun _ => none) 0 (some (sr 0))) 1 (some (sr 1))) 2 (some (sr 2))) 3 (some (sr 3))) 4 (some (sr 4))) 5 (some (sr 5))))], [(q1, ob 6 [.ref (sr4 0), .ref (sr4 1), .ref (sr4 2), .ref (sr4 3), .int (S0 6 0), .ref (sr4 4), .ref (sr4 5)])], [(sr4 0, iA (aC E 0) 4 (va_cpy f0 f6 0 0 4))], [(sr4 1, iA (aC E 0) 4 (va_cpy f1 f7 0 0 4))], [(sr4 2, iA (aC E 0) 4 (va_cpy f2 f8 0 0 4))], [(sr4 3, iA (aC E 0) 4 (va_cpy f3 f9 0 0 4))], [(sr4 4, iA (aC E 0) 4 (va_cpy f4 f10 0 0 4))], [(sr4 5, iA (aC E 0) 4 (va_cpy f5 f11 0 0 4))], fz]) rfl (by decide) (by decide) (by decide) (by decide) (by decide) (g1 := (va_cpy f5 f11 0 0 4)) rfl rfl (Nat.le_of_ble_eq_true rfl) (Nat.le_of_ble_eq_true rfl) dX7_copy_125 ?_
              refine g_iinc hX (pc := 128) (v := 6) (lv1 := [(4, .int 6), (3, .ref q14), (2, .ref q13), (1, .ref q1), (0, .ref a)]) dX7_copy_128 0 rfl (by decide) (by decide) rfl ?_
              refine g_goto hX (pc := 131) (tgt := 107) dX7_copy_131 rfl ?_
              refine g_iload hX (pc := 107) dX7_copy_107 0 rfl ?_
              refine g_aload_n hX (pc := 109) dX7_copy_109 2 rfl ?_
              refine g_alen hX (pc := 110) (sp_mem (i := 1) rfl) 5 rfl (v := 6) rfl dX7_copy_110 ?_
              refine g_icmp_ge hX (pc := 111) (tgt := 134) dX7_copy_111 rfl (fun c21 => ?_) (fun c21 => ?_)
              · refine g_aload_n hX (pc := 134) dX7_copy_134 3 rfl ?_
                refine g_aload_n hX (pc := 135) dX7_copy_135 4 rfl ?_
                refine g_getm hX (pc := 136) fcX7 (sp_in 9 rfl k0) 4 (by decide) q1634 rfl (v := .int (S 6 0)) rfl dX7_copy_136 ?_
                refine g_put hX (pc := 139) fcX7 2 (fs1 := [.ref (sr4 0), .ref (sr4 1), .ref (sr4 2), .ref (sr4 3), .int (S 6 0), .ref (sr4 4), .ref (sr4 5)]) (cs1 := [[(q14, qA (aC E 5) 6 (va_up (va_up (va_up (va_up (va_up (va_up (fun _ => none) 0 (some (sr4 0))) 1 (some (sr4 1))) 2 (some (sr4 2))) 3 (some (sr4 3))) 4 (some (sr4 4))) 5 (some (sr4 5))))], [(q13, qA (aC E 5) 6 (va_up (va_up (va_up (va_up (va_up (va_up (fun _ => none) 0 (some (sr 0))) 1 (some (sr 1))) 2 (some (sr 2))) 3 (some (sr 3))) 4 (some (sr 4))) 5 (some (sr 5))))], [(q1, ob 6 [.ref (sr4 0), .ref (sr4 1), .ref (sr4 2), .ref (sr4 3), .int (S 6 0), .ref (sr4 4), .ref (sr4 5)])], [(sr4 0, iA (aC E 0) 4 (va_cpy f0 f6 0 0 4))], [(sr4 1, iA (aC E 0) 4 (va_cpy f1 f7 0 0 4))], [(sr4 2, iA (aC E 0) 4 (va_cpy f2 f8 0 0 4))], [(sr4 3, iA (aC E 0) 4 (va_cpy f3 f9 0 0 4))], [(sr4 4, iA (aC E 0) 4 (va_cpy f4 f10 0 0 4))], [(sr4 5, iA (aC E 0) 4 (va_cpy f5 f11 0 0 4))], fz]) rfl 4 (by decide) q1634 rfl rfl rfl rfl (Nat.le_of_ble_eq_true rfl) rfl rfl dX7_copy_139 ?_
                refine g_aload_n hX (pc := 142) dX7_copy_142 3 rfl ?_
                refine g_drop (cs1 := [[(q13, qA (aC E 5) 6 (va_up (va_up (va_up (va_up (va_up (va_up (fun _ => none) 0 (some (sr 0))) 1 (some (sr 1))) 2 (some (sr 2))) 3 (some (sr 3))) 4 (some (sr 4))) 5 (some (sr 5))))], [(q1, ob 6 [.ref (sr4 0), .ref (sr4 1), .ref (sr4 2), .ref (sr4 3), .int (S 6 0), .ref (sr4 4), .ref (sr4 5)])], [(sr4 0, iA (aC E 0) 4 (va_cpy f0 f6 0 0 4))], [(sr4 1, iA (aC E 0) 4 (va_cpy f1 f7 0 0 4))], [(sr4 2, iA (aC E 0) 4 (va_cpy f2 f8 0 0 4))], [(sr4 3, iA (aC E 0) 4 (va_cpy f3 f9 0 0 4))], [(sr4 4, iA (aC E 0) 4 (va_cpy f4 f10 0 0 4))], [(sr4 5, iA (aC E 0) 4 (va_cpy f5 f11 0 0 4))], fz]) [0] rfl ?_
                refine g_drop (cs1 := [[(q1, ob 6 [.ref (sr4 0), .ref (sr4 1), .ref (sr4 2), .ref (sr4 3), .int (S 6 0), .ref (sr4 4), .ref (sr4 5)])], [(sr4 0, iA (aC E 0) 4 (va_cpy f0 f6 0 0 4))], [(sr4 1, iA (aC E 0) 4 (va_cpy f1 f7 0 0 4))], [(sr4 2, iA (aC E 0) 4 (va_cpy f2 f8 0 0 4))], [(sr4 3, iA (aC E 0) 4 (va_cpy f3 f9 0 0 4))], [(sr4 4, iA (aC E 0) 4 (va_cpy f4 f10 0 0 4))], [(sr4 5, iA (aC E 0) 4 (va_cpy f5 f11 0 0 4))], fz]) [0] rfl ?_
                refine g_pk [0, 0, 0, 0, 0, 0, 0] rfl ?_
                refine g_fl (cs1 := [[(q1, ob 6 [.ref (sr4 0), .ref (sr4 1), .ref (sr4 2), .ref (sr4 3), .int (S 6 0), .ref (sr4 4), .ref (sr4 5)]), (sr4 0, iA (aC E 0) 4 (va_cpy f0 f6 0 0 4)), (sr4 1, iA (aC E 0) 4 (va_cpy f1 f7 0 0 4)), (sr4 2, iA (aC E 0) 4 (va_cpy f2 f8 0 0 4)), (sr4 3, iA (aC E 0) 4 (va_cpy f3 f9 0 0 4)), (sr4 4, iA (aC E 0) 4 (va_cpy f4 f10 0 0 4)), (sr4 5, iA (aC E 0) 4 (va_cpy f5 f11 0 0 4))], fz]) rfl ?_
                refine g_aret hX (pc := 143) hR (by first | exact Or.inl ⟨_, rfl⟩ | exact Or.inr ⟨_, rfl⟩) ?_ (Nat.le_of_ble_eq_true rfl) (Nat.le_of_ble_eq_true rfl) dX7_copy_143
                refine ⟨_, _, IsMT.mk6 (S := S) ?_ rfl, rfl, rfl⟩
                intro k hk
                obtain ⟨e0, e1, e2, e3, e4, e5⟩ := hS k hk
                exact ⟨(cpy4 hk).trans e0, (cpy4 hk).trans e1, (cpy4 hk).trans e2, (cpy4 hk).trans e3, (cpy4 hk).trans e4, (cpy4 hk).trans e5⟩
              · exact absurd c21 (by decide)
