/-! how the model's objects lie in the cells -/
section MP
variable {E : EE} {l : Launch} {X : Fx} {cs : List va_W} {kc ks pc : Nat} {lv : List (Nat × Value)} {st : List Value}
/-- an array's contents count only below its length -/
theorem g_extI {a n : Nat} {c : ClassId} {f g : Nat → Int32} {cs1 : List va_W} (i : Nat) (hm : cs[i]? = some [(a, iA c n f)]) (hfg : ∀ k, k < n → f k = g k) (hcs : cs.set i [(a, iA c n g)] = cs1) (k : G E l X cs1 kc ks pc lv st) : G E l X cs kc ks pc lv st := fun H locs ls hP hD hS hl => by
  obtain ⟨q0, h0, h1⟩ := sp_set cs i _ hm
  subst hcs
  have he : vp_cell c (n, .inl f) = vp_cell c (n, .inl g) := by
    rw [vp_cell_i, vp_cell_i]
    unfold arrV
    congr 1
    exact congrArg (fun (z : Fin n → Value) => Array.ofFn z) (funext fun j => by show _ = _; simp only [hfg j.val j.isLt])
  have hP1 := hP.set (e := iA c n g) hD h0 (show H[a]? = some (vp_cell c (n, .inl g)) from he ▸ hP q0 _ h0) (fun q _ => rfl)
  have hD1 := hD.set (e := iA c n g) h0
  rw [h1] at hP1 hD1
  exact k H locs ls hP1 hD1 hS hl
theorem g_extQ {a n : Nat} {c : ClassId} {f g : Nat → Option Nat} {cs1 : List va_W} (i : Nat) (hm : cs[i]? = some [(a, qA c n f)]) (hfg : ∀ k, k < n → f k = g k) (hcs : cs.set i [(a, qA c n g)] = cs1) (k : G E l X cs1 kc ks pc lv st) : G E l X cs kc ks pc lv st := fun H locs ls hP hD hS hl => by
  obtain ⟨q0, h0, h1⟩ := sp_set cs i _ hm
  subst hcs
  have he : vp_cell c (n, .inr (.inr (.inr (.inr f)))) = vp_cell c (n, .inr (.inr (.inr (.inr g)))) := by
    rw [vp_cell_q, vp_cell_q]
    unfold arrV
    congr 1
    exact congrArg (fun (z : Fin n → Value) => Array.ofFn z) (funext fun j => by show _ = _; simp only [hfg j.val j.isLt])
  have hP1 := hP.set (e := qA c n g) hD h0 (show H[a]? = some (vp_cell c (n, .inr (.inr (.inr (.inr g))))) from he ▸ hP q0 _ h0) (fun q _ => rfl)
  have hD1 := hD.set (e := qA c n g) h0
  rw [h1] at hP1 hD1
  exact k H locs ls hP1 hD1 hS hl
/-- cells of a chunk lent out, and given back -/
theorem bor_perm {α : Type} : ∀ {wl W : List α}, wl.Nodup → (∀ q ∈ wl, q ∈ W) → ∃ R, W.Perm (wl ++ R) := by
  intro wl
  induction wl with
  | nil => intro W _ _; exact ⟨W, List.Perm.refl _⟩
  | cons x wl ih =>
    intro W hn hs
    obtain ⟨W1, hW1⟩ : ∃ W1, W.Perm (x :: W1) := by
      obtain ⟨s, t, rfl⟩ := List.append_of_mem (hs x List.mem_cons_self)
      exact ⟨s ++ t, List.perm_middle⟩
    obtain ⟨hx, hn1⟩ := List.nodup_cons.mp hn
    obtain ⟨R, hR⟩ := ih (W := W1) hn1 (fun q hq => by
      have h := hW1.mem_iff.mp (hs q (List.mem_cons_of_mem _ hq))
      rcases List.mem_cons.mp h with rfl | h
      · exact absurd hq hx
      · exact h)
    exact ⟨R, hW1.trans (hR.cons x)⟩
theorem g_bor {wl W : va_W} (hn : wl.Nodup) (hs : ∀ q ∈ wl, q ∈ W) (k : ∀ R : va_W, W.Perm (wl ++ R) → G E l X (wl :: R :: cs) kc ks pc lv st) : G E l X (W :: cs) kc ks pc lv st := by
  obtain ⟨R, hR⟩ := bor_perm hn hs
  refine g_perm (cs1 := wl :: R :: cs) ?_ (k R hR)
  rw [List.flatten_cons, List.flatten_cons, List.flatten_cons, ← List.append_assoc]
  exact hR.append_right _
theorem g_back {wl W R : va_W} (hp : W.Perm (wl ++ R)) (k : G E l X (W :: cs) kc ks pc lv st) : G E l X (wl :: R :: cs) kc ks pc lv st := by
  refine g_perm (cs1 := W :: cs) ?_ k
  rw [List.flatten_cons, List.flatten_cons, List.flatten_cons, ← List.append_assoc]
  exact (hp.append_right _).symm
end MP
theorem AL.nodup {E : EE} {a : Nat} {as : List Nat} {w : va_W} (h : AL E a as w) : w.Nodup := by
  obtain ⟨m0, arr, cap, f, -, -, -, ⟨-, h⟩ | ⟨-, -, h⟩⟩ := h
  · rw [h]
    refine List.nodup_cons.mpr ⟨fun z => ?_, List.nodup_cons.mpr ⟨List.not_mem_nil, List.nodup_nil⟩⟩
    have := congrArg Prod.snd (List.mem_singleton.mp z)
    cases this
  · rw [h]
    exact List.nodup_cons.mpr ⟨List.not_mem_nil, List.nodup_nil⟩
/-- an entry, a request: arrays of ints -/
def enF (e : PEn) : Nat → Int32 := upd (upd (fun _ => 0) 0 e.1) 1 e.2
abbrev enM (E : EE) (e : PEn) : va_E := iA (aC E 0) 2 (enF e)
def rqF (r : PR) : Nat → Int32 := upd (upd (upd (upd (upd (fun _ => 0) 0 (nI (rC r))) 1 (nI (rK r))) 2 (nI (rY r))) 3 (rA r)) 4 (rB r)
abbrev rqM (E : EE) (r : PR) : va_E := iA (aC E 0) 5 (rqF r)
theorem enF_0 {e : PEn} : enF e 0 = e.1 := rfl
theorem enF_1 {e : PEn} : enF e 1 = e.2 := rfl
theorem rqF_0 {r : PR} : rqF r 0 = nI (rC r) := rfl
theorem rqF_1 {r : PR} : rqF r 1 = nI (rK r) := rfl
theorem rqF_2 {r : PR} : rqF r 2 = nI (rY r) := rfl
theorem rqF_3 {r : PR} : rqF r 3 = rA r := rfl
theorem rqF_4 {r : PR} : rqF r 4 = rB r := rfl
/-- a store -/
def IsMR (E : EE) (a : Nat) (sr : Nat → Nat) (S : PS) (w : va_W) : Prop := ∃ (f0 f1 f2 f3 f4 f5 : Nat → Int32), S6 S f0 f1 f2 f3 f4 f5 ∧
  w = [(a, ob 6 [.ref (sr 0), .ref (sr 1), .ref (sr 2), .ref (sr 3), .int (S 6 0), .ref (sr 4), .ref (sr 5)]), (sr 0, iA (aC E 0) 4 f0), (sr 1, iA (aC E 0) 4 f1), (sr 2, iA (aC E 0) 4 f2), (sr 3, iA (aC E 0) 4 f3), (sr 4, iA (aC E 0) 4 f4), (sr 5, iA (aC E 0) 4 f5)]
def IsMT (E : EE) (a : Nat) (S : PS) (w : va_W) : Prop := ∃ sr : Nat → Nat, IsMR E a sr S w
theorem IsMR.head {E : EE} {a : Nat} {sr : Nat → Nat} {S : PS} {w : va_W} (h : IsMR E a sr S w) : ∃ fs, (a, ob 6 fs) ∈ w := by
  obtain ⟨f0, f1, f2, f3, f4, f5, -, h⟩ := h
  exact ⟨_, by rw [h]; exact List.mem_cons_self⟩
theorem IsMT.head {E : EE} {a : Nat} {S : PS} {w : va_W} (h : IsMT E a S w) : ∃ fs, (a, ob 6 fs) ∈ w := h.elim fun _ k => k.head
def MTIn (E : EE) (fz : va_W) (a : Nat) (S : PS) : Prop := ∃ w, IsMT E a S w ∧ ∀ q ∈ w, q ∈ fz
theorem MTIn.mono {E : EE} {fz fz1 : va_W} {a : Nat} {S : PS} (h : ∀ q ∈ fz, q ∈ fz1) (k : MTIn E fz a S) : MTIn E fz1 a S := by
  obtain ⟨w, h1, h2⟩ := k
  exact ⟨w, h1, fun q hq => h q (h2 q hq)⟩
theorem MTIn.head {E : EE} {fz : va_W} {a : Nat} {S : PS} (h : MTIn E fz a S) : ∃ fs, (a, ob 6 fs) ∈ fz := by
  obtain ⟨w, h1, h2⟩ := h
  obtain ⟨fs, h3⟩ := h1.head
  exact ⟨fs, h2 _ h3⟩
theorem IsMR.mk6 {E : EE} {a : Nat} {sr : Nat → Nat} {S : PS} {f0 f1 f2 f3 f4 f5 : Nat → Int32} {t : Int32} (h : S6 S f0 f1 f2 f3 f4 f5) (ht : S 6 0 = t) : IsMR E a sr S [(a, ob 6 [.ref (sr 0), .ref (sr 1), .ref (sr 2), .ref (sr 3), .int t, .ref (sr 4), .ref (sr 5)]), (sr 0, iA (aC E 0) 4 f0), (sr 1, iA (aC E 0) 4 f1), (sr 2, iA (aC E 0) 4 f2), (sr 3, iA (aC E 0) 4 f3), (sr 4, iA (aC E 0) 4 f4), (sr 5, iA (aC E 0) 4 f5)] :=
  ⟨f0, f1, f2, f3, f4, f5, h, by rw [ht]⟩
theorem IsMT.mk6 {E : EE} {a : Nat} {S : PS} {r0 r1 r2 r3 r4 r5 : Nat} {f0 f1 f2 f3 f4 f5 : Nat → Int32} {t : Int32} (h : S6 S f0 f1 f2 f3 f4 f5) (ht : S 6 0 = t) : IsMT E a S [(a, ob 6 [.ref r0, .ref r1, .ref r2, .ref r3, .int t, .ref r4, .ref r5]), (r0, iA (aC E 0) 4 f0), (r1, iA (aC E 0) 4 f1), (r2, iA (aC E 0) 4 f2), (r3, iA (aC E 0) 4 f3), (r4, iA (aC E 0) 4 f4), (r5, iA (aC E 0) 4 f5)] :=
  ⟨sr6 r0 r1 r2 r3 r4 r5, IsMR.mk6 h ht⟩
/-- a list of entries -/
def MEL (E : EE) (fz : va_W) (la : Nat) (ges : List (Nat × PEn)) (wl : va_W) : Prop := AL E la (ges.map Prod.fst) wl ∧ ∀ g ∈ ges, (g.1, enM E g.2) ∈ fz
theorem MEL.head {E : EE} {fz : va_W} {la : Nat} {ges : List (Nat × PEn)} {wl : va_W} (h : MEL E fz la ges wl) : ∃ fs, (la, ob 15 fs) ∈ wl := h.1.head
theorem MEL.mono {E : EE} {fz fz1 : va_W} {la : Nat} {ges : List (Nat × PEn)} {wl : va_W} (h : ∀ q ∈ fz, q ∈ fz1) (k : MEL E fz la ges wl) : MEL E fz1 la ges wl := ⟨k.1, fun g hg => h _ (k.2 g hg)⟩
theorem men_ok {E : EE} {fz : va_W} {ges : List (Nat × PEn)} (h : ∀ g ∈ ges, (g.1, enM E g.2) ∈ fz) : okL E fz (ges.map Prod.fst) := by
  intro y hy
  obtain ⟨g, hg, rfl⟩ := List.mem_map.mp hy
  exact Or.inr (Or.inl ⟨2, _, h g hg⟩)
theorem men_at {E : EE} {fz : va_W} {ges : List (Nat × PEn)} (h : ∀ g ∈ ges, (g.1, enM E g.2) ∈ fz) {i : Nat} {g : Nat × PEn} (hg : ges[i]? = some g) : (g.1, enM E g.2) ∈ fz := h g (List.mem_iff_getElem?.mpr ⟨i, hg⟩)
theorem mel_add {E : EE} {fz : va_W} {la : Nat} {ges : List (Nat × PEn)} {wl w1 : va_W} {q : Nat} {e : PEn} (h : MEL E fz la ges wl) (hq : (q, enM E e) ∈ fz) (ha : AL E la (ges.map Prod.fst ++ [q]) w1) : MEL E fz la (ges ++ [(q, e)]) w1 := by
  refine ⟨by rw [List.map_append]; exact ha, fun g hg => ?_⟩
  rcases List.mem_append.mp hg with h1 | h1
  · exact h.2 g h1
  · rw [List.mem_singleton.mp h1]; exact hq
/-- what is kept -/
def IsKp (E : EE) (fz : va_W) (a : Nat) (L : PL) (w : va_W) : Prop := ∃ (la sp : Nat) (ges : List (Nat × PEn)) (wl : va_W), MEL E fz la ges wl ∧ ges.map Prod.snd = lE L ∧ MTIn E fz sp (lS L) ∧
  w = (a, ob 5 [.int (lT L), .int (lV L), .int (nI (lB L)), .int (lBT L), .ref sp, .ref la]) :: wl
theorem IsKp.mono {E : EE} {fz fz1 : va_W} {a : Nat} {L : PL} {w : va_W} (h : ∀ q ∈ fz, q ∈ fz1) (k : IsKp E fz a L w) : IsKp E fz1 a L w := by
  obtain ⟨la, sp, ges, wl, h1, h2, h3, h4⟩ := k
  exact ⟨la, sp, ges, wl, h1.mono h, h2, h3.mono h, h4⟩
theorem IsKp.head {E : EE} {fz : va_W} {a : Nat} {L : PL} {w : va_W} (h : IsKp E fz a L w) : ∃ fs, (a, ob 5 fs) ∈ w := by
  obtain ⟨la, sp, ges, wl, -, -, -, h⟩ := h
  exact ⟨_, by rw [h]; exact List.mem_cons_self⟩
def KpIn (E : EE) (fz : va_W) (a : Nat) (L : PL) : Prop := ∃ w, IsKp E fz a L w ∧ ∀ q ∈ w, q ∈ fz
theorem KpIn.mono {E : EE} {fz fz1 : va_W} {a : Nat} {L : PL} (h : ∀ q ∈ fz, q ∈ fz1) (k : KpIn E fz a L) : KpIn E fz1 a L := by
  obtain ⟨w, h1, h2⟩ := k
  exact ⟨w, h1.mono h, fun q hq => h q (h2 q hq)⟩
/-- a machine: of its two arrays the first sz count -/
def IsMM (E : EE) (fz : va_W) (sz a : Nat) (M : PM) (w : va_W) : Prop := ∃ (rk rv rs rn rp : Nat) (fn fk : Nat → Int32) (wk ws : va_W), (∀ k, k < 5 → (k < sz → fn k = nI (mNx M k) ∧ fk k = nI (mKp M k)) ∧ (sz ≤ k → fn k = 0 ∧ fk k = 0)) ∧
  IsKp E fz rk (mL M) wk ∧ KpIn E fz rv (mV M) ∧ IsMT E rs (mS M) ws ∧
  w = (a, ob 4 [.int (mR M), .ref rk, .ref rv, .ref rs, .int (nI (mDn M)), .int (nI (mSu M)), .int (mVt M), .ref rn, .ref rp, .int (bI (mLz M))]) :: (rn, iA (aC E 0) 5 fn) :: (rp, iA (aC E 0) 5 fk) :: (wk ++ ws)
theorem IsMM.mono {E : EE} {fz fz1 : va_W} {sz a : Nat} {M : PM} {w : va_W} (h : ∀ q ∈ fz, q ∈ fz1) (k : IsMM E fz sz a M w) : IsMM E fz1 sz a M w := by
  obtain ⟨rk, rv, rs, rn, rp, fn, fk, wk, ws, h1, h2, h3, h4, h5⟩ := k
  exact ⟨rk, rv, rs, rn, rp, fn, fk, wk, ws, h1, h2.mono h, h3.mono h, h4, h5⟩
theorem IsMM.head {E : EE} {fz : va_W} {sz a : Nat} {M : PM} {w : va_W} (h : IsMM E fz sz a M w) : ∃ fs, (a, ob 4 fs) ∈ w := by
  obtain ⟨rk, rv, rs, rn, rp, fn, fk, wk, ws, -, -, -, -, h⟩ := h
  exact ⟨_, by rw [h]; exact List.mem_cons_self⟩
/-- a message that is sent -/
def GMIn (E : EE) (fz : va_W) (a : Nat) (g : PMg) : Prop := ∃ (la : Nat) (sv : Value) (ges : List (Nat × PEn)) (wl : va_W), (a, ob 13 [.int (nI (gW g)), .int (nI (gF g)), .int (nI (gT g)), .int (gTm g), .int (nI (gN g)), .int (gIt g), .int (bI (gY g)), .int (nI (gS g)), .ref la, sv]) ∈ fz ∧
  (∀ q ∈ wl, q ∈ fz) ∧ MEL E fz la ges wl ∧ ges.map Prod.snd = gE g ∧ (gW g = 4 → ∃ sp, sv = .ref sp ∧ MTIn E fz sp (gSn g))
theorem GMIn.mono {E : EE} {fz fz1 : va_W} {a : Nat} {g : PMg} (h : ∀ q ∈ fz, q ∈ fz1) (k : GMIn E fz a g) : GMIn E fz1 a g := by
  obtain ⟨la, sv, ges, wl, h1, h2, h3, h4, h5⟩ := k
  exact ⟨la, sv, ges, wl, h _ h1, fun q hq => h q (h2 q hq), h3.mono h, h4, fun z => by obtain ⟨sp, e, h6⟩ := h5 z; exact ⟨sp, e, h6.mono h⟩⟩
/-- the list of the messages -/
def MBL (E : EE) (fz : va_W) (lb : Nat) (bs : List PMg) (wb : va_W) : Prop := ∃ gs : List (Nat × PMg), gs.map Prod.snd = bs ∧ AL E lb (gs.map Prod.fst) wb ∧ ∀ g ∈ gs, GMIn E fz g.1 g.2
theorem MBL.head {E : EE} {fz : va_W} {lb : Nat} {bs : List PMg} {wb : va_W} (h : MBL E fz lb bs wb) : ∃ fs, (lb, ob 15 fs) ∈ wb := by
  obtain ⟨gs, -, h, -⟩ := h
  exact h.head
theorem MBL.mono {E : EE} {fz fz1 : va_W} {lb : Nat} {bs : List PMg} {wb : va_W} (h : ∀ q ∈ fz, q ∈ fz1) (k : MBL E fz lb bs wb) : MBL E fz1 lb bs wb := by
  obtain ⟨gs, h1, h2, h3⟩ := k
  exact ⟨gs, h1, h2, fun g hg => (h3 g hg).mono h⟩
theorem gm_ok1 {E : EE} {fz : va_W} {a : Nat} {m : PMg} (h : GMIn E fz a m) : okE E fz a := by
  obtain ⟨la, sv, ges, wl, h1, -⟩ := h
  exact Or.inl ⟨13, _, h1, by omega⟩
theorem gm_ok {E : EE} {fz : va_W} {gs : List (Nat × PMg)} (h : ∀ g ∈ gs, GMIn E fz g.1 g.2) : okL E fz (gs.map Prod.fst) := by
  intro y hy
  obtain ⟨g, hg, rfl⟩ := List.mem_map.mp hy
  exact gm_ok1 (h g hg)
/-- the list of the requests -/
def MRL (E : EE) (fz : va_W) (lr : Nat) (R : List PR) (wr : va_W) : Prop := ∃ rr : List (Nat × PR), rr.map Prod.snd = R ∧ AL E lr (rr.map Prod.fst) wr ∧ ∀ p ∈ rr, (p.1, rqM E p.2) ∈ fz
theorem MRL.head {E : EE} {fz : va_W} {lr : Nat} {R : List PR} {wr : va_W} (h : MRL E fz lr R wr) : ∃ fs, (lr, ob 15 fs) ∈ wr := by
  obtain ⟨rr, -, h, -⟩ := h
  exact h.head
theorem MRL.mono {E : EE} {fz fz1 : va_W} {lr : Nat} {R : List PR} {wr : va_W} (h : ∀ q ∈ fz, q ∈ fz1) (k : MRL E fz lr R wr) : MRL E fz1 lr R wr := by
  obtain ⟨rr, h1, h2, h3⟩ := k
  exact ⟨rr, h1, h2, fun g hg => h _ (h3 g hg)⟩
theorem mrl_at {E : EE} {fz : va_W} {lr : Nat} {R : List PR} {wr : va_W} (h : MRL E fz lr R wr) {j : Nat} {r : PR} (hj : R[j]? = some r) : ∃ (ras : List Nat) (a : Nat), AL E lr ras wr ∧ ras.length = R.length ∧ ras[j]? = some a ∧ (a, rqM E r) ∈ fz := by
  obtain ⟨rr, h1, h2, h3⟩ := h
  subst h1
  rw [List.getElem?_map] at hj
  obtain ⟨x, hx, rfl⟩ : ∃ x, rr[j]? = some x ∧ x.2 = r := by
    cases hm : rr[j]? with
    | none => rw [hm] at hj; cases hj
    | some x => rw [hm] at hj; exact ⟨x, rfl, Option.some.inj hj⟩
  exact ⟨rr.map Prod.fst, x.1, h2, by simp, by rw [List.getElem?_map, hx]; rfl, h3 x (List.mem_of_getElem? hx)⟩
/-- what a request is does not change -/
theorem mrl_set {E : EE} {fz : va_W} {lr : Nat} {R : List PR} {wr : va_W} (h : MRL E fz lr R wr) {j : Nat} {r r1 : PR} (hj : R[j]? = some r) (e : rqF r1 = rqF r) : MRL E fz lr (R.set j r1) wr := by
  obtain ⟨rr, h1, h2, h3⟩ := h
  subst h1
  rw [List.getElem?_map] at hj
  obtain ⟨x, hx, rfl⟩ : ∃ x, rr[j]? = some x ∧ x.2 = r := by
    cases hm : rr[j]? with
    | none => rw [hm] at hj; cases hj
    | some x => rw [hm] at hj; exact ⟨x, rfl, Option.some.inj hj⟩
  obtain ⟨hl, hxe⟩ := List.getElem?_eq_some_iff.mp hx
  refine ⟨rr.set j (x.1, r1), List.map_set, ?_, ?_⟩
  · rw [List.map_set, show (rr.map Prod.fst).set j (x.1, r1).1 = rr.map Prod.fst from ?_]
    · exact h2
    · apply List.ext_getElem?
      intro i
      rw [List.getElem?_set]
      by_cases hi : j = i
      · subst hi
        rw [if_pos rfl, List.getElem?_map, hx, if_pos (by rw [List.length_map]; exact hl)]
        rfl
      · rw [if_neg hi]
  · intro y hy
    rcases List.mem_or_eq_of_mem_set hy with h4 | rfl
    · exact h3 y h4
    · have := h3 x (List.mem_of_getElem? hx)
      show (x.1, iA (aC E 0) 5 (rqF r1)) ∈ fz
      rw [e]
      exact this
/-- the machines -/
def MML (E : EE) (fz : va_W) (Ms : List PM) (as : List Nat) (wM : va_W) : Prop := ∃ mm : List (Nat × PM × va_W), mm.map (fun x => x.2.1) = Ms ∧ mm.map Prod.fst = as ∧ (∀ x ∈ mm, IsMM E fz Ms.length x.1 x.2.1 x.2.2) ∧ wM = MS mm
theorem MML.mono {E : EE} {fz fz1 : va_W} {Ms : List PM} {as : List Nat} {wM : va_W} (h : ∀ q ∈ fz, q ∈ fz1) (k : MML E fz Ms as wM) : MML E fz1 Ms as wM := by
  obtain ⟨mm, h1, h2, h3, h4⟩ := k
  exact ⟨mm, h1, h2, fun g hg => (h3 g hg).mono h, h4⟩
theorem MML.len {E : EE} {fz : va_W} {Ms : List PM} {as : List Nat} {wM : va_W} (k : MML E fz Ms as wM) : as.length = Ms.length := by
  obtain ⟨mm, rfl, rfl, -, -⟩ := k
  simp
theorem mml_focus {E : EE} {fz : va_W} {Ms : List PM} {as : List Nat} {wM : va_W} (h : MML E fz Ms as wM) {k : Nat} {M : PM} (hk : Ms[k]? = some M) : ∃ (m : Nat) (wk pre post : va_W), as[k]? = some m ∧ IsMM E fz Ms.length m M wk ∧ wM = pre ++ (wk ++ post) ∧
    ∀ (fz1 : va_W) (M1 : PM) (wk1 : va_W), Ext E fz fz1 → IsMM E fz1 Ms.length m M1 wk1 → MML E fz1 (Ms.set k M1) as (pre ++ (wk1 ++ post)) := by
  obtain ⟨mm, h1, h2, h3, rfl⟩ := h
  subst h1
  subst h2
  rw [List.getElem?_map] at hk
  obtain ⟨x, hx, rfl⟩ : ∃ x, mm[k]? = some x ∧ x.2.1 = M := by
    cases hm : mm[k]? with
    | none => rw [hm] at hk; cases hk
    | some x => rw [hm] at hk; exact ⟨x, rfl, Option.some.inj hk⟩
  obtain ⟨hl, hxe⟩ := List.getElem?_eq_some_iff.mp hx
  refine ⟨x.1, x.2.2, MS (mm.take k), MS (mm.drop (k + 1)), by rw [List.getElem?_map, hx]; rfl, h3 x (List.mem_of_getElem? hx), ms_at hx, fun fz1 M1 wk1 he hM => ?_⟩
  refine ⟨mm.set k (x.1, M1, wk1), List.map_set, ?_, ?_, ms_set (y := (x.1, M1, wk1)) hl⟩
  · rw [List.map_set]
    apply List.ext_getElem?
    intro i
    rw [List.getElem?_set]
    by_cases hi : k = i
    · subst hi
      rw [if_pos rfl, List.getElem?_map, hx, if_pos (by rw [List.length_map]; exact hl)]
      rfl
    · rw [if_neg hi]
  · intro y hy
    rw [List.length_set]
    rcases List.mem_or_eq_of_mem_set hy with h4 | rfl
    · exact (h3 y h4).mono he
    · exact hM
theorem mbl_focus {E : EE} {fz : va_W} {lb : Nat} {bs : List PMg} {wb : va_W} (h : MBL E fz lb bs wb) {i : Nat} {g : PMg} (hi : bs[i]? = some g) : ∃ (bas : List Nat) (a : Nat), AL E lb bas wb ∧ bas.length = bs.length ∧ bas[i]? = some a ∧ GMIn E fz a g ∧ okL E fz bas ∧
    ∀ w1, AL E lb (List.eraseIdx bas i) w1 → MBL E fz lb (List.eraseIdx bs i) w1 := by
  obtain ⟨gs, h1, h2, h3⟩ := h
  subst h1
  rw [List.getElem?_map] at hi
  obtain ⟨x, hx, rfl⟩ : ∃ x, gs[i]? = some x ∧ x.2 = g := by
    cases hm : gs[i]? with
    | none => rw [hm] at hi; cases hi
    | some x => rw [hm] at hi; exact ⟨x, rfl, Option.some.inj hi⟩
  refine ⟨gs.map Prod.fst, x.1, h2, by simp, by rw [List.getElem?_map, hx]; rfl, h3 x (List.mem_of_getElem? hx), gm_ok h3, fun w1 hw => ⟨gs.eraseIdx i, ?_, ?_, fun g hg => h3 g (List.mem_of_mem_eraseIdx hg)⟩⟩
  · exact er_map2 _ _ _
  · rw [er_map2]; exact hw
/-- the four arrays of a world -/
def fRes (R : List PR) : Nat → Int32 := fun k => ((R[k]?).map (fun r => rRes r)).getD (-1)
def fSen (R : List PR) : Nat → Int32 := fun k => ((R[k]?).map (fun r => rSent r)).getD (-1)
def fAns (R : List PR) : Nat → Int32 := fun k => ((R[k]?).map (fun r => rAns r)).getD (-1)
def fTim (R : List PR) : Nat → Int32 := fun k => ((R[k]?).map (fun r => rTimes r)).getD 0
theorem fX_set {h : PR → Int32} {z : Int32} {R : List PR} {k : Nat} {r1 : PR} (hk : k < R.length) : (fun (j : Nat) => (((R.set k r1)[j]?).map h).getD z) = upd (fun (j : Nat) => ((R[j]?).map h).getD z) k (h r1) := by
  funext j
  unfold upd
  by_cases e : j = k
  · subst e
    rw [if_pos rfl, List.getElem?_set_self hk]
    rfl
  · rw [if_neg e, List.getElem?_set_ne (Ne.symm e)]
theorem fX_same {h : PR → Int32} {z : Int32} {R : List PR} {k : Nat} {r r1 : PR} (hk : R[k]? = some r) (e : h r1 = h r) : (fun (j : Nat) => (((R.set k r1)[j]?).map h).getD z) = (fun (j : Nat) => ((R[j]?).map h).getD z) := by
  rw [fX_set (List.getElem?_eq_some_iff.mp hk).1]
  funext j
  unfold upd
  by_cases c : j = k
  · subst c
    rw [if_pos rfl, hk, e]
    rfl
  · rw [if_neg c]
theorem fX_app {h : PR → Int32} {z : Int32} {R : List PR} {r : PR} (e : h r = z) : (fun (j : Nat) => (((R ++ [r])[j]?).map h).getD z) = (fun (j : Nat) => ((R[j]?).map h).getD z) := by
  funext j
  by_cases c : j < R.length
  · rw [List.getElem?_append_left c]
  · rw [List.getElem?_append_right (by omega), List.getElem?_eq_none (l := R) (by omega)]
    by_cases c2 : j - R.length = 0
    · rw [c2]; simp [e]
    · rw [List.getElem?_eq_none (by simp; omega)]
theorem fX_at {h : PR → Int32} {z : Int32} {R : List PR} {k : Nat} {r : PR} (hk : R[k]? = some r) : ((R[k]?).map h).getD z = h r := by rw [hk]; rfl
/-- a World's four arrays in one chunk -/
def RA4 (E : EE) (r0 r1 r2 r3 : Nat) (R : List PR) : va_W := [(r0, iA (aC E 0) 40 (fRes R)), (r1, iA (aC E 0) 40 (fSen R)), (r2, iA (aC E 0) 40 (fAns R)), (r3, iA (aC E 0) 40 (fTim R))]
