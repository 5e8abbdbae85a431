/-! what is asked -/
def oReq (r : PR) (w : Nat) : Int32 := match w with
  | 0 => rRes r
  | 1 => rSent r
  | 2 => rAns r
  | 3 => rTimes r
  | 4 => nI (rC r)
  | 5 => nI (rK r)
  | _ => nI (rY r)
def oEn (e : PEn) (w : Nat) : Int32 := if w = 0 then e.1 else e.2
def oSto (S : PS) (ky w : Nat) : Int32 := if w < 4 then S w ky else S 6 0
def sumW (R : List PR) : Nat → Int32
  | 0 => 0
  | i + 1 => if rAns (hG R i) = (-1) then sumW R i else sumW R i + (rAns (hG R i) - rSent (hG R i))
def mWait (R : List PR) : UInt64 := if cntAn R R.length = 0 then FP.dconst0 else FP.ddiv (FP.i2d (sumW R R.length)) (FP.i2d (nI (cntAn R R.length)))
def mixD (d : Int64) (x : Int32) : Int64 := d * 31 + Int32.toInt64 x
def gAt (P : PN) (i : Nat) : PMg := ((nB P)[i]?).getD ((0, 0, 0), (0, 0, 0), (false, 0, [], S0))
theorem gAt_e {P : PN} {i : Nat} {g : PMg} (h : (nB P)[i]? = some g) : gAt P i = g := by unfold gAt; rw [h]; rfl
/-- the net in which a machine stood, if it could -/
def leadP (P : PN) (k : Nat) : PN := if ¬ mR (mAt P k) = 0 ∧ ¬ mR (mAt P k) = 3 then nStand P k else P
def leadB (P : PN) (k : Nat) : Bool := decide (mR (mAt (nAll 60 (leadP P k)) k) = 3)
def ansN (P : PN) (j : Nat) : Int32 := rRes (rqG (nR (nAll 60 P)) j)
def dgA (P : PN) : Nat → Int64
  | 0 => 58161
  | i + 1 => mixD (dgA P i) (oMany P i)
def dmA (M : PM) (d : Int64) : Nat → Int64
  | 0 => d
  | i + 1 => mixD (dmA M d i) (oMach M i)
def dmB (L : PL) (d : Int64) : Nat → Int64
  | 0 => d
  | i + 1 => mixD (mixD (dmB L d i) (oEn (enG L (lB L + 1 + i)) 0)) (oEn (enG L (lB L + 1 + i)) 1)
def dmC (M : PM) (k : Nat) (d : Int64) : Nat → Int64
  | 0 => d
  | i + 1 => mixD (mixD (dmC M k d i) (oFol M k i true)) (oFol M k i false)
def dmE (S : PS) (ky : Nat) (d : Int64) : Nat → Int64
  | 0 => d
  | w + 1 => mixD (dmE S ky d w) (oSto S ky w)
def dmD (S : PS) (d : Int64) : Nat → Int64
  | 0 => d
  | y + 1 => dmE S y (dmD S d y) 5
def dMach (M : PM) (k n : Nat) (d : Int64) : Int64 := mixD (dmD (mS M) (dmC M k (dmB (mL M) (dmA M d 9) (lE (mL M)).length) n) 4) (nI (lLast (mV M)))
def dgB (P : PN) : Nat → Int64
  | 0 => dgA P 11
  | k + 1 => dMach (mAt P k) k (nM P).length (dgB P k)
def dgG (g : PMg) (d : Int64) : Nat → Int64
  | 0 => d
  | w + 1 => mixD (dgG g d w) (gTold g w)
def dgC (P : PN) : Nat → Int64
  | 0 => dgB P (nM P).length
  | i + 1 => dgG (gAt P i) (dgC P i) 7
def dgR (r : PR) (d : Int64) : Nat → Int64
  | 0 => d
  | w + 1 => mixD (dgR r d w) (oReq r w)
def dgD (P : PN) : Nat → Int64
  | 0 => dgC P (nB P).length
  | j + 1 => dgR (rqG (nR P) j) (dgD P j) 4
def dgF (P : PN) : Nat → Int64
  | 0 => mixD (dgD P (nR P).length) (brkN P)
  | k + 1 => mixD (dgF P k) (bI (leadB P k))
def digN (P : PN) : Int64 := if (nR P).length = 0 then dgF P (nM P).length else mixD (dgF P (nM P).length) (ansN P ((nR P).length - 1))
/-- a machine's store, where it lies -/
theorem MachIn.sto {E : EE} {fz : va_W} {a : Nat} {M : PM} {w : va_W} (h : MachIn E fz a M w) : ∃ (rn rk rl rs rst : Nat) (sr : Nat → Nat) (f0 f1 f2 f3 f4 f5 : Nat → Int32), (a, ob 8 [.int (nI (mN M)), .ref rn, .ref rk, .ref rl, .ref rs, .ref rst, .int (mR M), .int (mVt M), .int (nI (mSu M)), .int (nI (mDn M)), .int (bI (mLz M))]) ∈ w ∧ S6 (mS M) f0 f1 f2 f3 f4 f5 ∧
    (rst, ob 7 [.ref (sr 0), .ref (sr 1), .ref (sr 2), .ref (sr 3), .ref (sr 4), .ref (sr 5), .int (mS M 6 0)]) ∈ w ∧ (sr 0, iA (aC E 0) 4 f0) ∈ w ∧ (sr 1, iA (aC E 0) 4 f1) ∈ w ∧ (sr 2, iA (aC E 0) 4 f2) ∈ w ∧ (sr 3, iA (aC E 0) 4 f3) ∈ w := by
  obtain ⟨wk, h, hs⟩ := h
  obtain ⟨rn, rk, rl, rs, rst, fn, fk, wl, ws, wst, -, -, -, hS, rfl⟩ := h
  obtain ⟨sr, f0, f1, f2, f3, f4, f5, h6, rfl⟩ := hS
  have hin : ∀ q, q ∈ [(rst, ob 7 [.ref (sr 0), .ref (sr 1), .ref (sr 2), .ref (sr 3), .ref (sr 4), .ref (sr 5), .int (mS M 6 0)]), (sr 0, iA (aC E 0) 4 f0), (sr 1, iA (aC E 0) 4 f1), (sr 2, iA (aC E 0) 4 f2), (sr 3, iA (aC E 0) 4 f3), (sr 4, iA (aC E 0) 4 f4), (sr 5, iA (aC E 0) 4 f5)] → q ∈ w := fun q hq =>
    hs q (List.mem_cons_of_mem _ (List.mem_cons_of_mem _ (List.mem_cons_of_mem _ (List.mem_append_right _ (List.mem_append_right _ hq)))))
  refine ⟨rn, rk, rl, rs, rst, sr, f0, f1, f2, f3, f4, f5, hs _ List.mem_cons_self, h6, hin _ ?_, hin _ ?_, hin _ ?_, hin _ ?_, hin _ ?_⟩
  · exact List.mem_cons_self
  · exact List.mem_cons_of_mem _ List.mem_cons_self
  · exact List.mem_cons_of_mem _ (List.mem_cons_of_mem _ List.mem_cons_self)
  · exact List.mem_cons_of_mem _ (List.mem_cons_of_mem _ (List.mem_cons_of_mem _ List.mem_cons_self))
  · exact List.mem_cons_of_mem _ (List.mem_cons_of_mem _ (List.mem_cons_of_mem _ (List.mem_cons_of_mem _ List.mem_cons_self)))
theorem nStand_e {P : PN} {k : Nat} {M : PM} (hM : (nM P)[k]? = some M) : nStand P k = nPut P k (standIf (nM P).length M (pB (nB P) (nLo P))) := by
  unfold nStand
  rw [mAt_get hM]
theorem stand_nInv {p k : Nat} {P : PN} {M : PM} (h : nInv p P) (hM : (nM P)[k]? = some M) : nInv (p + 1) (nStand P k) ∧ (nM (nStand P k)).length = (nM P).length ∧ (nR (nStand P k)).length = (nR P).length := by
  obtain ⟨b, hb, hp⟩ := h
  obtain ⟨h1, h2, h3, h4, h5⟩ := hb
  obtain ⟨m1, m2, m3⟩ := h4 _ _ hM
  have hx := stand_xok (M := M) (B := pB (nB P) (nLo P)) ⟨m1, h2, h5⟩
  have hr := settle_ok (now := nNow P) hx.1 h3
  have hn : mN (standIf (nM P).length M (pB (nB P) (nLo P))).1 = k := by
    have e : mN (standIf (nM P).length M (pB (nB P) (nLo P))).1 = mN M := by
      unfold standIf leadIf
      split <;> rfl
    rw [e, m2]
  have hc : cd (standIf (nM P).length M (pB (nB P) (nLo P))).1 + ldN (nM P).length (mVt (mCand M)) ≤ 1 := by
    have h7 := leadIf_cd (sz := (nM P).length) (M := mCand M) (B := askAll (nM P).length (mCand M) (pB (nB P) (nLo P))) rfl
    rw [cd_1 (M := mCand M) rfl] at h7
    exact h7
  rw [nStand_e hM]
  refine ⟨⟨_, nPut_ok ⟨h1, h2, h3, h4, h5⟩ hM hx (Nat.le_add_right _ _) hn, ?_⟩, List.length_set, hr.2.2.2.2.1⟩
  have hs := sum_set (f := cd) (x := M) (y := (settle (nM P).length (nNow P) (standIf (nM P).length M (pB (nB P) (nLo P))).1 (nR P)).1) hM
  rw [cd_of hr.2.2.1] at hs
  show b + ldN (nM P).length (mVt (mCand M)) + (((nM P).set k (settle (nM P).length (nNow P) (standIf (nM P).length M (pB (nB P) (nLo P))).1 (nR P)).1).map cd).sum ≤ p + 1
  have h8 : b + ((nM P).map cd).sum ≤ p := hp
  omega
theorem leadP_inv {p k : Nat} {P : PN} (h : nInv p P) (hk : k < (nM P).length) : nInv (p + 1) (leadP P k) ∧ (nM (leadP P k)).length = (nM P).length ∧ (nR (leadP P k)).length = (nR P).length := by
  obtain ⟨M, hM⟩ := get_ex hk
  unfold leadP
  split
  · exact stand_nInv h hM
  · obtain ⟨b, h1, h2⟩ := h
    exact ⟨⟨b, h1, by omega⟩, rfl, rfl⟩
theorem leadP_y {P : PN} {k : Nat} {M : PM} (hM : (nM P)[k]? = some M) (h1 : ¬ mR M = 0) (h2 : ¬ mR M = 3) : leadP P k = nStand P k := by
  unfold leadP
  rw [mAt_get hM]
  exact if_pos ⟨h1, h2⟩
theorem leadP_n {P : PN} {k : Nat} {M : PM} (hM : (nM P)[k]? = some M) (h : ¬ (¬ mR M = 0 ∧ ¬ mR M = 3)) : leadP P k = P := by
  unfold leadP
  rw [mAt_get hM]
  exact if_neg h
theorem MachIn.mono {E : EE} {fz fz1 : va_W} {m : Nat} {M : PM} {wM : va_W} (h : ∀ q ∈ fz, q ∈ fz1) (k : MachIn E fz m M wM) : MachIn E fz1 m M wM := by
  obtain ⟨wk, h1, h2⟩ := k
  exact ⟨wk, h1.mono h, h2⟩
/-- all entries of a machine's log, where they lie -/
theorem MachIn.ents {E : EE} {fz : va_W} {a : Nat} {M : PM} {w : va_W} (h : MachIn E fz a M w) : ∃ (rn rk rl rs rst la sp : Nat) (m0 : Int32) (arr cap : Nat) (f : Nat → Option Nat), (a, ob 8 [.int (nI (mN M)), .ref rn, .ref rk, .ref rl, .ref rs, .ref rst, .int (mR M), .int (mVt M), .int (nI (mSu M)), .int (nI (mDn M)), .int (bI (mLz M))]) ∈ w ∧
    (rl, ob 9 [.ref la, .int (lT (mL M)), .int (lV (mL M)), .int (nI (lB (mL M))), .int (lBT (mL M)), .ref sp]) ∈ w ∧ (la, ob 15 [.int m0, .ref arr, .int (nI (lE (mL M)).length)]) ∈ w ∧
    ∀ i, i < (lE (mL M)).length → (arr, qA (aC E 2) cap f) ∈ w ∧ ((lE (mL M)).length ≤ cap ∧ cap ≤ 100000) ∧ ∃ (y : Nat) (e : PEn), f i = some y ∧ (y, enC e) ∈ fz ∧ (lE (mL M))[i]? = some e := by
  obtain ⟨wk, h, hs⟩ := h
  obtain ⟨rn, rk, rl, rs, rst, fn, fk, wl, ws, wst, hn, hL, hV, -, rfl⟩ := h
  obtain ⟨la, sp, ges, wl, hE, hg, -, rfl⟩ := hL
  have e1 : ges.length = (lE (mL M)).length := by rw [← hg, List.length_map]
  obtain ⟨m0, arr, cap, f, h1, h2, h3, h4⟩ := hE.1
  rw [List.length_map] at h1 h3
  rw [List.length_map, e1] at h4
  have hin : ∀ q, q ∈ wl → q ∈ w := fun q hq => hs q (List.mem_cons_of_mem _ (List.mem_cons_of_mem _ (List.mem_cons_of_mem _ (List.mem_append_left _ (List.mem_cons_of_mem _ hq)))))
  have hL0 : (la, ob 15 [.int m0, .ref arr, .int (nI (lE (mL M)).length)]) ∈ wl := by
    rcases h4 with ⟨-, h4⟩ | ⟨-, -, h4⟩ <;> rw [h4] <;> exact List.mem_cons_self
  refine ⟨rn, rk, rl, rs, rst, la, sp, m0, arr, cap, f, hs _ List.mem_cons_self, hs _ ?_, hin _ hL0, fun i hi => ?_⟩
  · exact List.mem_cons_of_mem _ (List.mem_cons_of_mem _ (List.mem_cons_of_mem _ (List.mem_append_left _ List.mem_cons_self)))
  · obtain ⟨g, hgi⟩ := get_ex (l := ges) (i := i) (by omega)
    rcases h4 with ⟨-, h4⟩ | ⟨h4, -, -⟩
    · exact ⟨hin _ (by rw [h4]; exact List.mem_cons_of_mem _ List.mem_cons_self), ⟨by omega, h2⟩, g.1, g.2, by rw [h3 i (by omega)]; exact map_get hgi, hE.2 g (List.mem_of_getElem? hgi), by rw [← hg]; exact map_get2 hgi⟩
    · omega
def rqN (P : PN) : Nat := if (nR P).length = 0 then 0 else 1
