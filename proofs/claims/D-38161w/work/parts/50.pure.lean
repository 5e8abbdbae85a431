/-! the pure state, and how the component's objects lie in the cells -/
/-- a store: 0 values 1 owners 2 fences 3 ends 4 latest 5 results, of four each; 6 0 the time -/
abbrev PS : Type := Nat → Nat → Int32
/-- an entry: its term, its request -/
abbrev PEn : Type := Int32 × Int32
/-- a log: entries, term, vote, base, base's term, snapshot -/
abbrev PL : Type := List PEn × Int32 × Int32 × Nat × Int32 × PS
abbrev lE (L : PL) : List PEn := L.1
abbrev lT (L : PL) : Int32 := L.2.1
abbrev lV (L : PL) : Int32 := L.2.2.1
abbrev lB (L : PL) : Nat := L.2.2.2.1
abbrev lBT (L : PL) : Int32 := L.2.2.2.2.1
abbrev lS (L : PL) : PS := L.2.2.2.2.2
/-- a request: client kind key, a b, result sent answered sendings -/
abbrev PR : Type := (Nat × Nat × Nat) × (Int32 × Int32) × (Int32 × Int32 × Int32 × Int32)
abbrev rC (r : PR) : Nat := r.1.1
abbrev rK (r : PR) : Nat := r.1.2.1
abbrev rY (r : PR) : Nat := r.1.2.2
abbrev rA (r : PR) : Int32 := r.2.1.1
abbrev rB (r : PR) : Int32 := r.2.1.2
abbrev rRes (r : PR) : Int32 := r.2.2.1
abbrev rSent (r : PR) : Int32 := r.2.2.2.1
abbrev rAns (r : PR) : Int32 := r.2.2.2.2.1
abbrev rTimes (r : PR) : Int32 := r.2.2.2.2.2
def up2 (S : PS) (j k : Nat) (x : Int32) : PS := fun j1 k1 => if j1 = j ∧ k1 = k then x else S j1 k1
/-- six arrays of ints that are a store's -/
def S6 (S : PS) (f0 f1 f2 f3 f4 f5 : Nat → Int32) : Prop := ∀ k, k < 4 → f0 k = S 0 k ∧ f1 k = S 1 k ∧ f2 k = S 2 k ∧ f3 k = S 3 k ∧ f4 k = S 4 k ∧ f5 k = S 5 k
/-- a store at a, its arrays at sr 0 .. sr 5 -/
def IsSR (E : EE) (a : Nat) (sr : Nat → Nat) (S : PS) (w : va_W) : Prop := ∃ (f0 f1 f2 f3 f4 f5 : Nat → Int32), S6 S f0 f1 f2 f3 f4 f5 ∧
  w = [(a, ob 7 [.ref (sr 0), .ref (sr 1), .ref (sr 2), .ref (sr 3), .ref (sr 4), .ref (sr 5), .int (S 6 0)]), (sr 0, iA (aC E 0) 4 f0), (sr 1, iA (aC E 0) 4 f1), (sr 2, iA (aC E 0) 4 f2), (sr 3, iA (aC E 0) 4 f3), (sr 4, iA (aC E 0) 4 f4), (sr 5, iA (aC E 0) 4 f5)]
def IsSt (E : EE) (a : Nat) (S : PS) (w : va_W) : Prop := ∃ sr : Nat → Nat, IsSR E a sr S w
theorem IsSR.head {E : EE} {a : Nat} {sr : Nat → Nat} {S : PS} {w : va_W} (h : IsSR E a sr S w) : ∃ fs, (a, ob 7 fs) ∈ w := by
  obtain ⟨f0, f1, f2, f3, f4, f5, -, h⟩ := h
  exact ⟨_, by rw [h]; exact List.mem_cons_self⟩
theorem IsSt.head {E : EE} {a : Nat} {S : PS} {w : va_W} (h : IsSt E a S w) : ∃ fs, (a, ob 7 fs) ∈ w := h.elim fun _ k => k.head
/-- a store among what never changes -/
def StIn (E : EE) (fz : va_W) (a : Nat) (S : PS) : Prop := ∃ w, IsSt E a S w ∧ ∀ q ∈ w, q ∈ fz
theorem StIn.mono {E : EE} {fz fz1 : va_W} {a : Nat} {S : PS} (h : ∀ q ∈ fz, q ∈ fz1) (k : StIn E fz a S) : StIn E fz1 a S := by
  obtain ⟨w, h1, h2⟩ := k
  exact ⟨w, h1, fun q hq => h q (h2 q hq)⟩
abbrev enC (e : PEn) : va_E := ob 12 [.int e.1, .int e.2]
/-- a list of entries: which objects, what they hold -/
def EL (E : EE) (fz : va_W) (la : Nat) (ges : List (Nat × PEn)) (wl : va_W) : Prop := AL E la (ges.map Prod.fst) wl ∧ ∀ g ∈ ges, (g.1, enC g.2) ∈ fz
theorem EL.head {E : EE} {fz : va_W} {la : Nat} {ges : List (Nat × PEn)} {wl : va_W} (h : EL E fz la ges wl) : ∃ fs, (la, ob 15 fs) ∈ wl := h.1.head
theorem en_ok {E : EE} {fz : va_W} {ges : List (Nat × PEn)} (h : ∀ g ∈ ges, (g.1, enC g.2) ∈ fz) : okL E fz (ges.map Prod.fst) := by
  intro y hy
  obtain ⟨g, hg, rfl⟩ := List.mem_map.mp hy
  exact Or.inl ⟨12, _, h g hg, by omega⟩
theorem en_at {fz : va_W} {ges : List (Nat × PEn)} (h : ∀ g ∈ ges, (g.1, enC g.2) ∈ fz) {i : Nat} {g : Nat × PEn} (hg : ges[i]? = some g) : (g.1, enC g.2) ∈ fz ∧ (ges.map Prod.fst)[i]? = some g.1 :=
  ⟨h g (List.mem_iff_getElem?.mpr ⟨i, hg⟩), by rw [List.getElem?_map, hg]; rfl⟩
/-- the term of an entry, or of the base -/
def lTm (b : Nat) (bt : Int32) (es : List PEn) (n : Nat) : Int32 := if n = b then bt else ((es[n - b - 1]?).getD (0, 0)).1
/-- a log at a: the object's own cell and the list's chunk -/
def IsLog (E : EE) (fz : va_W) (a : Nat) (L : PL) (w : va_W) : Prop := ∃ (la sp : Nat) (ges : List (Nat × PEn)) (wl : va_W), EL E fz la ges wl ∧ ges.map Prod.snd = lE L ∧ StIn E fz sp (lS L) ∧
  w = (a, ob 9 [.ref la, .int (lT L), .int (lV L), .int (nI (lB L)), .int (lBT L), .ref sp]) :: wl
abbrev rqC (E : EE) (r : PR) : va_E := ob 10 [.int (nI (rC r)), .ref (aK E (rK r)), .int (nI (rY r)), .int (rA r), .int (rB r), .int (rRes r), .int (rSent r), .int (rAns r), .int (rTimes r)]
theorem aK_inj {E : EE} {X : Fx} {cc : ByteArray} {own : String} {nL fr mc ms rl : Nat} (hX : Cx E X cc own nL fr mc ms rl) {i j : Nat} (hi : i < 6) (hj : j < 6) : aK E i = aK E j ↔ i = j := ⟨fun h => (cx_gs hX).1.2 i j hi hj h, fun h => by rw [h]⟩
theorem aW_inj {E : EE} {X : Fx} {cc : ByteArray} {own : String} {nL fr mc ms rl : Nat} (hX : Cx E X cc own nL fr mc ms rl) {i j : Nat} (hi : i < 5) (hj : j < 5) : aW E i = aW E j ↔ i = j := ⟨fun h => (cx_gs hX).2.1.2 i j hi hj h, fun h => by rw [h]⟩
/-! what a store does -/
def sFree (S : PS) (ky : Nat) (cl : Int32) : PS × Int32 := if S 1 ky = cl then (up2 (up2 S 1 ky (-1)) 3 ky (-1), 1) else (S, 0)
def sPass (S : PS) (m : Int32) : PS × Int32 := (fun j k => if (j = 1 ∨ j = 3) ∧ ¬ S 3 k = (-1) ∧ S 3 k ≤ S 6 0 + m then (-1) else if j = 6 ∧ k = 0 then S 6 0 + m else S j k, S 6 0 + m)
def sFen (S : PS) (ky : Nat) : Int32 := S 2 ky + (if S 1 ky = (-1) then 1 else 0)
def sLock (S : PS) (ky : Nat) (cl a : Int32) : PS × Int32 := if ¬ S 1 ky = (-1) ∧ ¬ S 1 ky = cl then (S, 0) else
  (up2 (up2 (up2 S 2 ky (sFen S ky)) 1 ky cl) 3 ky (if a = 0 then (-1) else S 6 0 + a), sFen S ky)
def rqBeh (kd : Nat) (ra rb v : Int32) : Int32 := if kd = 0 then ra else if kd = 2 then (if v = ra then rb else v) else v
def rqTold (kd : Nat) (ra v : Int32) : Int32 := if kd = 2 then (if v = ra then 1 else 0) else v
def sVal (S : PS) (kd ky : Nat) (ra rb : Int32) : PS × Int32 := (up2 S 0 ky (rqBeh kd ra rb (S 0 ky)), rqTold kd ra (S 0 ky))
def sDo (S : PS) (cl : Int32) (kd ky : Nat) (ra rb : Int32) : PS × Int32 := if kd = 3 then sLock S ky cl ra else if kd = 4 then sFree S ky cl else if kd = 5 then sPass S ra else sVal S kd ky ra rb
def sDoes (S : PS) (num : Int32) (c kd ky : Nat) (ra rb : Int32) : PS × Int32 := if S 4 c < num then (up2 (sDo (up2 S 4 c num) (nI c) kd ky ra rb).1 5 c (sDo (up2 S 4 c num) (nI c) kd ky ra rb).2, (sDo (up2 S 4 c num) (nI c) kd ky ra rb).2) else (S, if num = S 4 c then S 5 c else (-1))
def S0 : PS := fun j _ => if j = 1 ∨ j = 3 ∨ j = 4 then (-1) else 0
theorem s6_u0 {S : PS} {f0 f1 f2 f3 f4 f5 : Nat → Int32} (h : S6 S f0 f1 f2 f3 f4 f5) (k : Nat) (x : Int32) : S6 (up2 S 0 k x) (upd f0 k x) f1 f2 f3 f4 f5 := by
  intro q hq
  obtain ⟨e0, e1, e2, e3, e4, e5⟩ := h q hq
  refine ⟨?_, ?_, ?_, ?_, ?_, ?_⟩ <;> simp [up2, upd, e0, e1, e2, e3, e4, e5]
theorem s6_u1 {S : PS} {f0 f1 f2 f3 f4 f5 : Nat → Int32} (h : S6 S f0 f1 f2 f3 f4 f5) (k : Nat) (x : Int32) : S6 (up2 S 1 k x) f0 (upd f1 k x) f2 f3 f4 f5 := by
  intro q hq
  obtain ⟨e0, e1, e2, e3, e4, e5⟩ := h q hq
  refine ⟨?_, ?_, ?_, ?_, ?_, ?_⟩ <;> simp [up2, upd, e0, e1, e2, e3, e4, e5]
theorem s6_u2 {S : PS} {f0 f1 f2 f3 f4 f5 : Nat → Int32} (h : S6 S f0 f1 f2 f3 f4 f5) (k : Nat) (x : Int32) : S6 (up2 S 2 k x) f0 f1 (upd f2 k x) f3 f4 f5 := by
  intro q hq
  obtain ⟨e0, e1, e2, e3, e4, e5⟩ := h q hq
  refine ⟨?_, ?_, ?_, ?_, ?_, ?_⟩ <;> simp [up2, upd, e0, e1, e2, e3, e4, e5]
theorem s6_u3 {S : PS} {f0 f1 f2 f3 f4 f5 : Nat → Int32} (h : S6 S f0 f1 f2 f3 f4 f5) (k : Nat) (x : Int32) : S6 (up2 S 3 k x) f0 f1 f2 (upd f3 k x) f4 f5 := by
  intro q hq
  obtain ⟨e0, e1, e2, e3, e4, e5⟩ := h q hq
  refine ⟨?_, ?_, ?_, ?_, ?_, ?_⟩ <;> simp [up2, upd, e0, e1, e2, e3, e4, e5]
theorem s6_u4 {S : PS} {f0 f1 f2 f3 f4 f5 : Nat → Int32} (h : S6 S f0 f1 f2 f3 f4 f5) (k : Nat) (x : Int32) : S6 (up2 S 4 k x) f0 f1 f2 f3 (upd f4 k x) f5 := by
  intro q hq
  obtain ⟨e0, e1, e2, e3, e4, e5⟩ := h q hq
  refine ⟨?_, ?_, ?_, ?_, ?_, ?_⟩ <;> simp [up2, upd, e0, e1, e2, e3, e4, e5]
theorem s6_u5 {S : PS} {f0 f1 f2 f3 f4 f5 : Nat → Int32} (h : S6 S f0 f1 f2 f3 f4 f5) (k : Nat) (x : Int32) : S6 (up2 S 5 k x) f0 f1 f2 f3 f4 (upd f5 k x) := by
  intro q hq
  obtain ⟨e0, e1, e2, e3, e4, e5⟩ := h q hq
  refine ⟨?_, ?_, ?_, ?_, ?_, ?_⟩ <;> simp [up2, upd, e0, e1, e2, e3, e4, e5]
theorem s6_t {S : PS} {f0 f1 f2 f3 f4 f5 : Nat → Int32} (h : S6 S f0 f1 f2 f3 f4 f5) (x : Int32) : S6 (up2 S 6 0 x) f0 f1 f2 f3 f4 f5 := by
  intro q hq
  obtain ⟨e0, e1, e2, e3, e4, e5⟩ := h q hq
  refine ⟨?_, ?_, ?_, ?_, ?_, ?_⟩ <;> simp [up2, e0, e1, e2, e3, e4, e5]
theorem IsSR.mk6 {E : EE} {a : Nat} {sr : Nat → Nat} {S : PS} {f0 f1 f2 f3 f4 f5 : Nat → Int32} {t : Int32} (h : S6 S f0 f1 f2 f3 f4 f5) (ht : S 6 0 = t) : IsSR E a sr S [(a, ob 7 [.ref (sr 0), .ref (sr 1), .ref (sr 2), .ref (sr 3), .ref (sr 4), .ref (sr 5), .int t]), (sr 0, iA (aC E 0) 4 f0), (sr 1, iA (aC E 0) 4 f1), (sr 2, iA (aC E 0) 4 f2), (sr 3, iA (aC E 0) 4 f3), (sr 4, iA (aC E 0) 4 f4), (sr 5, iA (aC E 0) 4 f5)] :=
  ⟨f0, f1, f2, f3, f4, f5, h, by rw [ht]⟩
def sr6 (r0 r1 r2 r3 r4 r5 : Nat) : Nat → Nat := fun j => match j with
  | 0 => r0
  | 1 => r1
  | 2 => r2
  | 3 => r3
  | 4 => r4
  | _ => r5
theorem IsSt.mk6 {E : EE} {a : Nat} {S : PS} {r0 r1 r2 r3 r4 r5 : Nat} {f0 f1 f2 f3 f4 f5 : Nat → Int32} {t : Int32} (h : S6 S f0 f1 f2 f3 f4 f5) (ht : S 6 0 = t) : IsSt E a S [(a, ob 7 [.ref r0, .ref r1, .ref r2, .ref r3, .ref r4, .ref r5, .int t]), (r0, iA (aC E 0) 4 f0), (r1, iA (aC E 0) 4 f1), (r2, iA (aC E 0) 4 f2), (r3, iA (aC E 0) 4 f3), (r4, iA (aC E 0) 4 f4), (r5, iA (aC E 0) 4 f5)] :=
  ⟨sr6 r0 r1 r2 r3 r4 r5, IsSR.mk6 h ht⟩
theorem cpy4 {f g : Nat → Int32} {k : Nat} (hk : k < 4) : va_cpy f g (0 : Int32).toNatClampNeg (0 : Int32).toNatClampNeg (4 : Int32).toNatClampNeg k = f k := by
  rw [show (0 : Int32).toNatClampNeg = 0 from rfl, show (4 : Int32).toNatClampNeg = 4 from rfl, pk_cpy_in (by omega) (by omega)]
  congr 1
  omega
theorem fl_mono {a b : Nat} (h : a ≤ b) : fl_mc a ≤ fl_mc b ∧ fl_ms a ≤ fl_ms b := by
  unfold fl_mc fl_ms
  constructor <;> (repeat' split) <;> omega
theorem take_snoc {α : Type} {l : List α} {i : Nat} {x : α} (h : l[i]? = some x) : l.take i ++ [x] = l.take (i + 1) := by
  obtain ⟨hl, e⟩ := List.getElem?_eq_some_iff.mp h
  rw [← List.take_append_getElem hl, e]
theorem map_get {ges : List (Nat × PEn)} {i : Nat} {g : Nat × PEn} (h : ges[i]? = some g) : (ges.map Prod.fst)[i]? = some g.1 := by rw [List.getElem?_map, h]; rfl
theorem get_ex {α : Type} {l : List α} {i : Nat} (h : i < l.length) : ∃ x, l[i]? = some x := ⟨l[i], List.getElem?_eq_getElem h⟩
theorem er_map {α β : Type} (f : α → β) : ∀ (l : List α) (i : Nat), (l.eraseIdx i).map f = (l.map f).eraseIdx i := by
  intro l
  induction l with
  | nil => intro i; rfl
  | cons a l ih =>
    intro i
    cases i with
    | zero => rfl
    | succ i => simp only [List.eraseIdx_cons_succ, List.map_cons, ih]
/-- the entry of a number -/
def enAt (b : Nat) (es : List PEn) (k : Nat) : Option PEn := if b < k then es[k - b - 1]? else none
/-- how many of the first i entries of a log are not saved as they are -/
def lostUp (b : Nat) (es : List PEn) (b2 : Nat) (es2 : List PEn) : Nat → Nat
  | 0 => 0
  | i + 1 => lostUp b es b2 es2 i + (if enAt b2 es2 (b + 1 + i) = enAt b es (b + 1 + i) then 0 else 1)
theorem lostUp_s (b : Nat) (es : List PEn) (b2 : Nat) (es2 : List PEn) (i : Nat) : lostUp b es b2 es2 (i + 1) = lostUp b es b2 es2 i + (if enAt b2 es2 (b + 1 + i) = enAt b es (b + 1 + i) then 0 else 1) := rfl
theorem lostUp_le (b : Nat) (es : List PEn) (b2 : Nat) (es2 : List PEn) : ∀ i, lostUp b es b2 es2 i ≤ i := by
  intro i
  induction i with
  | zero => exact Nat.le_refl _
  | succ i ih =>
    unfold lostUp
    split <;> omega
/-- a message: word from to, term number itsTerm, isYes sure entries snapshot -/
abbrev PMg : Type := (Nat × Nat × Nat) × (Int32 × Nat × Int32) × (Bool × Nat × List PEn × PS)
abbrev gW (m : PMg) : Nat := m.1.1
abbrev gF (m : PMg) : Nat := m.1.2.1
abbrev gT (m : PMg) : Nat := m.1.2.2
abbrev gTm (m : PMg) : Int32 := m.2.1.1
abbrev gN (m : PMg) : Nat := m.2.1.2.1
abbrev gIt (m : PMg) : Int32 := m.2.1.2.2
abbrev gY (m : PMg) : Bool := m.2.2.1
abbrev gS (m : PMg) : Nat := m.2.2.2.1
abbrev gE (m : PMg) : List PEn := m.2.2.2.2.1
abbrev gSn (m : PMg) : PS := m.2.2.2.2.2
def MsgIn (E : EE) (fz : va_W) (a : Nat) (m : PMg) : Prop := ∃ (ra sp : Nat) (ges : List (Nat × PEn)) (f : Nat → Option Nat),
  (a, ob 11 [.ref (aW E (gW m)), .int (nI (gF m)), .int (nI (gT m)), .int (gTm m), .int (nI (gN m)), .int (gIt m), .int (bI (gY m)), .int (nI (gS m)), .ref ra, .ref sp]) ∈ fz ∧ (ra, qA (aC E 3) (List.length ges) f) ∈ fz ∧
  (∀ i, i < ges.length → f i = (ges.map Prod.fst)[i]?) ∧ ges.map Prod.snd = gE m ∧ (∀ g ∈ ges, (g.1, enC g.2) ∈ fz) ∧ StIn E fz sp (gSn m)
theorem MsgIn.mono {E : EE} {fz fz1 : va_W} {a : Nat} {m : PMg} (h : ∀ q ∈ fz, q ∈ fz1) (k : MsgIn E fz a m) : MsgIn E fz1 a m := by
  obtain ⟨ra, sp, ges, f, h1, h2, h3, h4, h5, h6⟩ := k
  exact ⟨ra, sp, ges, f, h _ h1, h _ h2, h3, h4, fun g hg => h _ (h5 g hg), h6.mono h⟩
theorem EL.mono {E : EE} {fz fz1 : va_W} {la : Nat} {ges : List (Nat × PEn)} {wl : va_W} (h : ∀ q ∈ fz, q ∈ fz1) (k : EL E fz la ges wl) : EL E fz1 la ges wl := ⟨k.1, fun g hg => h _ (k.2 g hg)⟩
theorem IsLog.mono {E : EE} {fz fz1 : va_W} {a : Nat} {L : PL} {w : va_W} (h : ∀ q ∈ fz, q ∈ fz1) (k : IsLog E fz a L w) : IsLog E fz1 a L w := by
  obtain ⟨la, sp, ges, wl, h1, h2, h3, h4⟩ := k
  exact ⟨la, sp, ges, wl, h1.mono h, h2, h3.mono h, h4⟩
/-- a machine: number nexts keeps, log saved store, role votes sure done isLazy -/
abbrev PM : Type := (Nat × (Nat → Nat) × (Nat → Nat)) × (PL × PL × PS) × (Int32 × Int32 × Nat × Nat × Bool)
abbrev mN (M : PM) : Nat := M.1.1
abbrev mNx (M : PM) : Nat → Nat := M.1.2.1
abbrev mKp (M : PM) : Nat → Nat := M.1.2.2
abbrev mL (M : PM) : PL := M.2.1.1
abbrev mV (M : PM) : PL := M.2.1.2.1
abbrev mS (M : PM) : PS := M.2.1.2.2
abbrev mR (M : PM) : Int32 := M.2.2.1
abbrev mVt (M : PM) : Int32 := M.2.2.2.1
abbrev mSu (M : PM) : Nat := M.2.2.2.2.1
abbrev mDn (M : PM) : Nat := M.2.2.2.2.2.1
abbrev mLz (M : PM) : Bool := M.2.2.2.2.2.2
def IsMach (E : EE) (fz : va_W) (a : Nat) (M : PM) (w : va_W) : Prop := ∃ (rn rk rl rs rst : Nat) (fn fk : Nat → Int32) (wl ws wst : va_W), (∀ k, k < 5 → fn k = nI (mNx M k) ∧ fk k = nI (mKp M k)) ∧ IsLog E fz rl (mL M) wl ∧ IsLog E fz rs (mV M) ws ∧ IsSt E rst (mS M) wst ∧
  w = (a, ob 8 [.int (nI (mN M)), .ref rn, .ref rk, .ref rl, .ref rs, .ref rst, .int (mR M), .int (mVt M), .int (nI (mSu M)), .int (nI (mDn M)), .int (bI (mLz M))]) :: (rn, iA (aC E 0) 5 fn) :: (rk, iA (aC E 0) 5 fk) :: (wl ++ (ws ++ wst))
theorem IsMach.mono {E : EE} {fz fz1 : va_W} {a : Nat} {M : PM} {w : va_W} (h : ∀ q ∈ fz, q ∈ fz1) (k : IsMach E fz a M w) : IsMach E fz1 a M w := by
  obtain ⟨rn, rk, rl, rs, rst, fn, fk, wl, ws, wst, h1, h2, h3, h4, h5⟩ := k
  exact ⟨rn, rk, rl, rs, rst, fn, fk, wl, ws, wst, h1, h2.mono h, h3.mono h, h4, h5⟩
theorem IsMach.head {E : EE} {fz : va_W} {a : Nat} {M : PM} {w : va_W} (h : IsMach E fz a M w) : ∃ fs, (a, ob 8 fs) ∈ w := by
  obtain ⟨rn, rk, rl, rs, rst, fn, fk, wl, ws, wst, -, -, -, -, h⟩ := h
  exact ⟨_, by rw [h]; exact List.mem_cons_self⟩
theorem IsLog.head {E : EE} {fz : va_W} {a : Nat} {L : PL} {w : va_W} (h : IsLog E fz a L w) : ∃ fs, (a, ob 9 fs) ∈ w := by
  obtain ⟨la, sp, ges, wl, -, -, -, h⟩ := h
  exact ⟨_, by rw [h]; exact List.mem_cons_self⟩
theorem cpy5 {f g : Nat → Int32} {k : Nat} (hk : k < 5) : va_cpy f g (0 : Int32).toNatClampNeg (0 : Int32).toNatClampNeg (5 : Int32).toNatClampNeg k = f k := by
  rw [show (0 : Int32).toNatClampNeg = 0 from rfl, show (5 : Int32).toNatClampNeg = 5 from rfl, pk_cpy_in (by omega) (by omega)]
  congr 1
  omega
theorem StIn.head {E : EE} {fz : va_W} {a : Nat} {S : PS} (h : StIn E fz a S) : ∃ fs, (a, ob 7 fs) ∈ fz := by
  obtain ⟨w, h1, h2⟩ := h
  obtain ⟨fs, h3⟩ := h1.head
  exact ⟨fs, h2 _ h3⟩
/-- what is told of a message -/
def gTold (m : PMg) (wh : Nat) : Int32 := match wh with
  | 0 => nI (gW m)
  | 1 => nI (gF m)
  | 2 => nI (gT m)
  | 3 => gTm m
  | 4 => nI (gN m)
  | 5 => bI (gY m)
  | _ => nI (gE m).length
