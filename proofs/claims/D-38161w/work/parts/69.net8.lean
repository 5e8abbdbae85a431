set_option maxHeartbeats 4000000 in
theorem mt_AL_elM (E : EE) (l : Launch) (a : Nat) (m0 : Int32) (arr : Nat) (n : Nat) (cap : Nat) (f : Nat → Option Nat) (k : Nat) (y : Nat) (w : va_W) (h1 : ((a, ob 15 [.int m0, .ref arr, .int (nI n)]) ∈ w)) (h2 : ((arr, qA (aC E 2) cap f) ∈ w)) (hk : (k < n)) (hn : (n ≤ cap)) (hc : (cap ≤ 100000)) (hy : (f k = some y)) : Mt E l yJ2_elementData cJ2_elementData 2 (some (.object "java/lang/Object")) 1 0 0 1 [.ref a, .int (nI k)] [w] (fun (v_ : Option Value) (cs_ : List va_W) => v_ = some (.ref y) ∧ cs_ = [w]) := by
  refine Mt.of (by decide) (Nat.le_of_ble_eq_true rfl) (fun X hX hR hin => ?_)
  refine g_lv1 (lv1 := [(0, .ref a), (1, .int (nI k))]) rfl ?_
  refine g_aload_n hX (pc := 0) dJ2_elementData_0 0 rfl ?_
  refine g_getm hX (pc := 1) fcJ2 (sp_in 0 rfl h1) 1 (by decide) q140 rfl (v := .ref arr) rfl dJ2_elementData_1 ?_
  refine g_iload_n hX (pc := 4) dJ2_elementData_4 1 rfl ?_
  refine g_aald hX (pc := 5) (t0 := 2) rfl (sp_in 0 rfl h2) (y := y) (vp_in_nI (by omega) (by omega)) (by rw [nI_clamp (by omega)]; exact hy) dJ2_elementData_5 ?_
  refine g_aret hX (pc := 6) hR (by first | exact Or.inl ⟨_, rfl⟩ | exact Or.inr ⟨_, rfl⟩) ?_ (Nat.le_of_ble_eq_true rfl) (Nat.le_of_ble_eq_true rfl) dJ2_elementData_6
  exact ⟨rfl, rfl⟩

set_option maxHeartbeats 4000000 in
theorem mt_AL_getM (E : EE) (l : Launch) (a : Nat) (m0 : Int32) (arr : Nat) (n : Nat) (cap : Nat) (f : Nat → Option Nat) (k : Nat) (y : Nat) (w : va_W) (h1 : ((a, ob 15 [.int m0, .ref arr, .int (nI n)]) ∈ w)) (h2 : ((arr, qA (aC E 2) cap f) ∈ w)) (hk : (k < n)) (hn : (n ≤ cap)) (hc : (cap ≤ 100000)) (hy : (f k = some y)) : Mt E l yJ2_get cJ2_get 2 (some (.object "java/lang/Object")) 3 0 0 44 [.ref a, .int (nI k)] [w] (fun (v_ : Option Value) (cs_ : List va_W) => v_ = some (.ref y) ∧ cs_ = [w]) := by
  refine Mt.of (by decide) (Nat.le_of_ble_eq_true rfl) (fun X hX hR hin => ?_)
  refine g_lv1 (lv1 := [(0, .ref a), (1, .int (nI k))]) rfl ?_
  refine g_iload_n hX (pc := 0) dJ2_get_0 1 rfl ?_
  refine g_aload_n hX (pc := 1) dJ2_get_1 0 rfl ?_
  refine g_getm hX (pc := 2) fcJ2 (sp_in 0 rfl h1) 2 (by decide) q143 rfl (v := .int (nI n)) rfl dJ2_get_2 ?_
  refine g_callS hX (pc := 5) kJ15_checkIndex (mt_Obj_checkIndex E l (nI k) (nI n) (nI_pos (by omega)) (nI_lt hk (by omega))) q211 [] rfl rfl rfl (Nat.le_of_ble_eq_true rfl) (Nat.le_of_ble_eq_true rfl) (Nat.le_of_ble_eq_true rfl) (Nat.le_of_ble_eq_true rfl) (Nat.le_of_ble_eq_true rfl) dJ2_get_5 (fun v w1 hp => ?_)
  obtain ⟨rfl, rfl⟩ := hp
  refine g_nrm (cs1 := [w]) (st1 := [.int (nI k)]) rfl rfl ?_
  refine g_pop hX (pc := 8) dJ2_get_8 rfl ?_
  refine g_aload_n hX (pc := 9) dJ2_get_9 0 rfl ?_
  refine g_iload_n hX (pc := 10) dJ2_get_10 1 rfl ?_
  refine g_callV hX (pc := 11) kJ2_elementData (mt_AL_elM E l a m0 arr n cap f k y w (h1) (h2) (hk) (hn) (hc) (hy)) q217 fcJ2 (sp_in 0 rfl h1) [0] rfl rfl rfl (Nat.le_of_ble_eq_true rfl) (Nat.le_of_ble_eq_true rfl) (Nat.le_of_ble_eq_true rfl) (Nat.le_of_ble_eq_true rfl) (Nat.le_of_ble_eq_true rfl) dJ2_get_11 (fun v w1 hp => ?_)
  obtain ⟨rfl, rfl⟩ := hp
  refine g_nrm (cs1 := [w]) (st1 := [.ref y]) rfl rfl ?_
  refine g_aret hX (pc := 14) hR (by first | exact Or.inl ⟨_, rfl⟩ | exact Or.inr ⟨_, rfl⟩) ?_ (Nat.le_of_ble_eq_true rfl) (Nat.le_of_ble_eq_true rfl) dJ2_get_14
  exact ⟨rfl, rfl⟩

set_option maxHeartbeats 4000000 in
theorem mt_Log_atM (E : EE) (l : Launch) (a : Nat) (la : Nat) (t : Int32) (v : Int32) (b : Nat) (bt : Int32) (sp : Nat) (m0 : Int32) (arr : Nat) (n : Nat) (cap : Nat) (f : Nat → Option Nat) (num : Nat) (y : Nat) (e : PEn) (w : va_W) (fz : va_W) (h1 : ((a, ob 9 [.ref la, .int t, .int v, .int (nI b), .int bt, .ref sp]) ∈ w)) (h2 : ((la, ob 15 [.int m0, .ref arr, .int (nI n)]) ∈ w)) (h3 : ((arr, qA (aC E 2) cap f) ∈ w)) (hb : (b < num)) (hnum : (num ≤ 1000000)) (hk : (num - b - 1 < n)) (hn : (n ≤ cap)) (hc : (cap ≤ 100000)) (hy : (f (num - b - 1) = some y)) (hz : ((y, enC e) ∈ fz)) : Mt E l yX10_at cX10_at 2 (some (.object "Quorumspire$Entry")) 4 0 0 65 [.ref a, .int (nI num)] [w, fz] (fun (v_ : Option Value) (cs_ : List va_W) => v_ = some (.ref y) ∧ cs_ = [w, fz]) := by
  refine Mt.of (by decide) (Nat.le_of_ble_eq_true rfl) (fun X hX hR hin => ?_)
  refine g_lv1 (lv1 := [(0, .ref a), (1, .int (nI num))]) rfl ?_
  refine g_aload_n hX (pc := 0) dX10_at_0 0 rfl ?_
  refine g_getm hX (pc := 1) fcX10 (sp_in 0 rfl h1) 0 (by decide) q839 rfl (v := .ref la) rfl dX10_at_1 ?_
  refine g_iload_n hX (pc := 4) dX10_at_4 1 rfl ?_
  refine g_aload_n hX (pc := 5) dX10_at_5 0 rfl ?_
  refine g_getm hX (pc := 6) fcX10 (sp_in 0 rfl h1) 3 (by decide) q850 rfl (v := .int (nI b)) rfl dX10_at_6 ?_
  refine g_isub hX (pc := 9) dX10_at_9 ?_
  refine g_iconst hX (pc := 10) (v := 1) dX10_at_10 (by decide) ?_
  refine g_isub hX (pc := 11) dX10_at_11 ?_
  refine g_eqi (nI (num - b - 1)) (by rw [pk_sub (by omega), show (1 : Int32) = nI 1 from rfl, pk_sub (by omega)]) ?_
  refine g_callF hX (pc := 12) kfJ2_get (mt_AL_getM E l la m0 arr n cap f (num - b - 1) y w (h2) (h3) (hk) (hn) (hc) (hy)) q253 fcJ2 (sp_in 0 rfl h2) [0] rfl rfl rfl (Nat.le_of_ble_eq_true rfl) (Nat.le_of_ble_eq_true rfl) (Nat.le_of_ble_eq_true rfl) (Nat.le_of_ble_eq_true rfl) (Nat.le_of_ble_eq_true rfl) dX10_at_12 (fun v w1 hp => ?_)
  obtain ⟨rfl, rfl⟩ := hp
  refine g_nrm (cs1 := [w, fz]) (st1 := [.ref y]) rfl rfl ?_
  refine g_cast hX (pc := 17) fcX14 (sp_in 1 rfl hz) q254 dX10_at_17 ?_
  refine g_aret hX (pc := 20) hR (by first | exact Or.inl ⟨_, rfl⟩ | exact Or.inr ⟨_, rfl⟩) ?_ (Nat.le_of_ble_eq_true rfl) (Nat.le_of_ble_eq_true rfl) dX10_at_20
  exact ⟨rfl, rfl⟩
