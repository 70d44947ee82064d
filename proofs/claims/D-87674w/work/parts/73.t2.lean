set_option maxRecDepth 100000
/-! ===== types of trees ===== -/
abbrev t3 : Type := Int32 × Int32 × Int32
def t0 : t3 := (0, 0, 0)
/-- locks that can't hold together -/
def mxd (lc le : Int32) : Prop := ((((¬ ((lc &&& (1 : Int32)) ≤ 0)) ∧ ((0 : Int32) < (le &&& (2 : Int32)))) ∨ ((¬ ((lc &&& (2 : Int32)) ≤ 0)) ∧ ((0 : Int32) < (le &&& (1 : Int32))))) ∨ ((¬ ((lc &&& (4 : Int32)) ≤ 0)) ∧ ((0 : Int32) < (le &&& (8 : Int32))))) ∨ ((¬ ((lc &&& (8 : Int32)) ≤ 0)) ∧ (¬ ((le &&& (4 : Int32)) ≤ 0)))
def tog (k v i j : Nat) : Prop := k = 11 ∨ k = 12 ∨ (k = 17 ∧ 1 < v) ∨ (k = 10 ∧ i = 0 ∧ j = 1)
def lkL (k v : Nat) : Int32 := match k with
  | 4 => if v / 4194304 % 2 = 1 then 8 else 4
  | 5 => if v < 500000000 then 1 else 2
  | _ => 0
def tyMx (k v : Nat) (l : List t3) : Prop := (∃ t ∈ l, bt 9 t.2.1) ∨ ∃ i j, i < j ∧ j < l.length ∧ tog k v i j ∧ mxd (l.getD i t0).2.2 (l.getD j t0).2.2
def lkAll (l : List t3) : Int32 := l.foldl (fun a t => a ||| t.2.2) 0
noncomputable def tyTf (zs os wo mn v : Nat) (f : Int32) : Int32 := (((24 : Int32) ||| (zbo (zs = mn))) ||| (Int32.ofNat (znt ((zs = mn - 1) ∧ (os = 1)) 2 0))) ||| (((Int32.ofNat (znt (((f &&& (384 : Int32)) = 384) ∧ (¬ (v < wo))) 256 0)) ||| (Int32.ofNat (znt (¬ (¬ (v - 1 < wo))) 0 32))) ||| (Int32.ofNat (znt (wo = 0) 128 0)))
noncomputable def cZ (l : List t3) : Nat := (l.map (fun t => zbn ((t.2.1 &&& (1 : Int32)) = 1))).sum
noncomputable def cO (l : List t3) : Nat := (l.map (fun t => zbn ((t.2.1 &&& (2 : Int32)) = 2))).sum
noncomputable def cW (l : List t3) : Nat := (l.map (fun t => zbn (¬ ((t.2.1 &&& (32 : Int32)) = 32)))).sum
def fAll (l : List t3) : Int32 := l.foldl (fun a t => a &&& t.2.1) 384
def tOk (l : List t3) : Prop := ∀ i, i < l.length → (l.getD i t0).1 = Int32.ofNat (znt (i = 0) 0 3) ∧ ((l.getD i t0).2.1 &&& (24 : Int32)) = 24
noncomputable def tyT (v : Nat) (l : List t3) : Option (Int32 × Int32) := zop (tOk l) (0, tyTf (cZ l) (cO l) (cW l) l.length v (fAll l))
/-- base and flags; the whole type -/
noncomputable def tyB (k v : Nat) (l : List t3) : Option (Int32 × Int32) :=
  if k < 10 ∨ k = 18 then some (tyL k)
  else if k = 10 then (match l with | [x, y, z] => tyA10 x.1 y.1 z.1 x.2.1 y.2.1 z.2.1 | _ => none)
  else if k < 17 then (match l with | [x, y] => tyP k x.1 y.1 x.2.1 y.2.1 | _ => none)
  else if k = 17 then tyT v l
  else if k < 26 then (match l with | [x] => tyW k x.1 x.2.1 | _ => none)
  else none
noncomputable def tyN (k v : Nat) (l : List t3) : Option t3 := (tyB k v l).map (fun q => (q.1, q.2 ||| zit (tyMx k v l) 512 0, lkL k v ||| lkAll l))
/-- all of a row that are there -/
def allS {α : Type} : List (Option α) → Option (List α)
  | [] => some []
  | none :: _ => none
  | some x :: l => (allS l).map (x :: ·)
noncomputable def tyG (x : zNd) (l : List (Option t3)) : Option t3 := (allS l).bind (tyN (tK x) (tV x))
noncomputable def ty : zNd → Option t3 := tR tyG
theorem ty_eq (x : zNd) : ty x = (allS ((tCs x).map ty)).bind (tyN (tK x) (tV x)) := by
  show tR tyG x = _
  rw [tR_eq]
  rfl
theorem allS_map {α : Type} (l : List α) : allS (l.map some) = some l := by
  induction l with
  | nil => rfl
  | cons x l ih => simp only [List.map_cons, allS, ih]; rfl
theorem ty_of {x : zNd} {l : List t3} (h : (tCs x).map ty = l.map some) : ty x = tyN (tK x) (tV x) l := by
  rw [ty_eq, h, allS_map]
  rfl
/-! ===== trees in the twin's rows ===== -/
/-- a chain of nodes -/
def mCh (S : zS) : Int32 → List Nat → Prop
  | c, [] => c = -1
  | c, i :: is => c = Int32.ofNat i ∧ i < 3000 ∧ mCh S (gA S 1613 i) is
/-- a node's own cells -/
def mNd (S : zS) (i : Nat) (x : zNd) (js : List Nat) : Prop := i < 3000 ∧ gA S 1610 i = Int32.ofNat (tK x) ∧ gA S 1611 i = Int32.ofNat (tV x) ∧ gA S 1615 i = Int32.ofNat (tPl x) ∧ gA S 1614 i = Int32.ofNat js.length ∧ mCh S (gA S 1612 i) js
/-- its type -/
def mTy (S : zS) (i : Nat) (t : t3) : Prop := gA S 1616 i = t.1 ∧ gA S 1617 i = t.2.1 ∧ gA S 1618 i = t.2.2
/-- keys in it -/
def mKy (S : zS) (lo hi i : Nat) : List Nat → List Nat → Prop
  | [], [] => True
  | j :: js, k :: ks => (lo ≤ j ∧ j < hi ∧ j ≠ i) ∧ gA S 1610 j = Int32.ofNat 30 ∧ gA S 1611 j = Int32.ofNat k ∧ gA S 1612 j = -1 ∧ mKy S lo hi i js ks
  | _, _ => False
/-- what is in a node; T: with types -/
def mFo (T : Bool) (S : zS) : zTr → Nat → Nat → Nat → List Nat → Prop
  | .leaf, _, _, _, js => js = []
  | .inner p c _ f n, lo, hi, i, js => ∃ j js' a b ks, js = j :: js' ∧ (lo ≤ a ∧ b ≤ hi ∧ ¬ (a ≤ i ∧ i < b)) ∧ ((a ≤ j ∧ j < b) ∧ mNd S j (p, c, f) ks ∧ (T = true → ∃ t, ty (p, c, f) = some t ∧ mTy S j t) ∧ (if c.1 = 18 then mKy S a b j ks c.2.2 ∧ sibs f = [] else mFo T S f a b j ks)) ∧ mFo T S n lo hi i js'
/-- a tree at a node, all of it between lo and hi -/
def mT (T : Bool) (S : zS) (lo hi : Nat) (x : zNd) (i : Nat) : Prop := (lo ≤ i ∧ i < hi) ∧ ∃ ks, mNd S i x ks ∧ (T = true → ∃ t, ty x = some t ∧ mTy S i t) ∧ (if tK x = 18 then mKy S lo hi i ks (tKs x) ∧ tCs x = [] else mFo T S x.2.2 lo hi i ks)
/-- a row of trees -/
def mRo (T : Bool) (S : zS) (lo hi i : Nat) : List zNd → List Nat → Prop
  | [], js => js = []
  | x :: cs, js => ∃ j js' a b, js = j :: js' ∧ (lo ≤ a ∧ b ≤ hi ∧ ¬ (a ≤ i ∧ i < b)) ∧ mT T S a b x j ∧ mRo T S lo hi i cs js'
theorem mFo_ro {T : Bool} {S : zS} : ∀ {f : zTr} {lo hi i : Nat} {js : List Nat}, mFo T S f lo hi i js ↔ mRo T S lo hi i (sibs f) js := by
  intro f
  induction f with
  | leaf => intro lo hi i js; exact Iff.rfl
  | inner p c u f n _ ihn =>
    intro lo hi i js
    constructor
    · rintro ⟨j, js', a, b, ks, h1, h2, ⟨h3, h4, h5, h6⟩, h7⟩
      exact ⟨j, js', a, b, h1, h2, ⟨h3, ks, h4, h5, h6⟩, ihn.mp h7⟩
    · rintro ⟨j, js', a, b, h1, h2, ⟨h3, ks, h4, h5, h6⟩, h7⟩
      exact ⟨j, js', a, b, ks, h1, h2, ⟨h3, h4, h5, h6⟩, ihn.mpr h7⟩
theorem mT_iff {T : Bool} {S : zS} {lo hi i : Nat} {x : zNd} : mT T S lo hi x i ↔ (lo ≤ i ∧ i < hi) ∧ ∃ ks, mNd S i x ks ∧ (T = true → ∃ t, ty x = some t ∧ mTy S i t) ∧ (if tK x = 18 then mKy S lo hi i ks (tKs x) ∧ tCs x = [] else mRo T S lo hi i (tCs x) ks) := by
  unfold mT
  constructor
  · rintro ⟨h1, ks, h2, h3, h4⟩
    refine ⟨h1, ks, h2, h3, ?_⟩
    by_cases hk : tK x = 18
    · rw [if_pos hk] at h4 ⊢; exact h4
    · rw [if_neg hk] at h4 ⊢; exact mFo_ro.mp h4
  · rintro ⟨h1, ks, h2, h3, h4⟩
    refine ⟨h1, ks, h2, h3, ?_⟩
    by_cases hk : tK x = 18
    · rw [if_pos hk] at h4 ⊢; exact h4
    · rw [if_neg hk] at h4 ⊢; exact mFo_ro.mpr h4
/-- the rows of nodes, but for next, are the same from lo to hi -/
def mEq (S S' : zS) (lo hi : Nat) : Prop := ∀ j, lo ≤ j → j < hi → gA S' 1610 j = gA S 1610 j ∧ gA S' 1611 j = gA S 1611 j ∧ gA S' 1615 j = gA S 1615 j ∧ gA S' 1614 j = gA S 1614 j ∧ gA S' 1612 j = gA S 1612 j ∧ gA S' 1616 j = gA S 1616 j ∧ gA S' 1617 j = gA S 1617 j ∧ gA S' 1618 j = gA S 1618 j
theorem mEq.sub {S S' : zS} {lo hi a b : Nat} (h : mEq S S' lo hi) (h1 : lo ≤ a) (h2 : b ≤ hi) : mEq S S' a b := fun j g1 g2 => h j (by omega) (by omega)
theorem mCh.eq {S S' : zS} : ∀ {js : List Nat} {c : Int32}, mCh S c js → (∀ j ∈ js, gA S' 1613 j = gA S 1613 j) → mCh S' c js := by
  intro js
  induction js with
  | nil => intro c h _; exact h
  | cons i is ih =>
    intro c h he
    refine ⟨h.1, h.2.1, ?_⟩
    rw [he i (List.mem_cons_self)]
    exact ih h.2.2 (fun j hj => he j (List.mem_cons_of_mem _ hj))
theorem mKy.eq {S S' : zS} {lo hi i : Nat} (h : mEq S S' lo hi) : ∀ {js ks : List Nat}, mKy S lo hi i js ks → mKy S' lo hi i js ks := by
  intro js
  induction js with
  | nil => intro ks hk; cases ks with | nil => trivial | cons => exact hk.elim
  | cons j js ih =>
    intro ks hk
    cases ks with
    | nil => exact hk.elim
    | cons k ks =>
      obtain ⟨h1, h2, h3, h4, h5⟩ := hk
      obtain ⟨e1, e2, -, -, e5, -⟩ := h j h1.1 h1.2.1
      exact ⟨h1, e1.trans h2, e2.trans h3, e5.trans h4, ih h5⟩
theorem mKy.mem {S : zS} {lo hi i : Nat} : ∀ {js ks : List Nat}, mKy S lo hi i js ks → ∀ j ∈ js, lo ≤ j ∧ j < hi ∧ j ≠ i := by
  intro js
  induction js with
  | nil => intro ks _ j hj; cases hj
  | cons j0 js ih =>
    intro ks hk j hj
    cases ks with
    | nil => exact hk.elim
    | cons k ks =>
      rcases List.mem_cons.mp hj with rfl | hj
      · exact hk.1
      · exact ih hk.2.2.2.2 j hj
theorem mRo.mem {T : Bool} {S : zS} {lo hi i : Nat} : ∀ {cs : List zNd} {js : List Nat}, mRo T S lo hi i cs js → ∀ j ∈ js, lo ≤ j ∧ j < hi ∧ j ≠ i := by
  intro cs
  induction cs with
  | nil => rintro js rfl j hj; cases hj
  | cons x cs ih =>
    rintro js ⟨j0, js', a, b, rfl, h2, h3, h4⟩ j hj
    rcases List.mem_cons.mp hj with rfl | hj
    · have := h3.1; exact ⟨by omega, by omega, by omega⟩
    · exact ih h4 j hj
theorem mTy.eq {S S' : zS} {lo hi i : Nat} {t : t3} (h : mTy S i t) (he : mEq S S' lo hi) (h1 : lo ≤ i) (h2 : i < hi) : mTy S' i t := by
  obtain ⟨e1, e2, e3, e4, e5, e6, e7, e8⟩ := he i h1 h2
  exact ⟨e6.trans h.1, e7.trans h.2.1, e8.trans h.2.2⟩
theorem mNd.eq {S S' : zS} {lo hi i : Nat} {x : zNd} {js : List Nat} (h : mNd S i x js) (he : mEq S S' lo hi) (h1 : lo ≤ i) (h2 : i < hi) (hn : ∀ j ∈ js, gA S' 1613 j = gA S 1613 j) : mNd S' i x js := by
  obtain ⟨e1, e2, e3, e4, e5, e6, e7, e8⟩ := he i h1 h2
  obtain ⟨g0, g1, g2, g3, g4, g5⟩ := h
  exact ⟨g0, e1.trans g1, e2.trans g2, e3.trans g3, e4.trans g4, by rw [e5]; exact g5.eq hn⟩
/-- a tree stays where its cells do (all but its own next) -/
theorem mT.eq {T : Bool} {S S' : zS} : ∀ {x : zNd} {lo hi i : Nat}, mT T S lo hi x i → mEq S S' lo hi → (∀ j, lo ≤ j → j < hi → j ≠ i → gA S' 1613 j = gA S 1613 j) → mT T S' lo hi x i := by
  intro x
  induction x using zTr_ind with
  | h x ih =>
    intro lo hi i h he hn
    obtain ⟨h1, ks, h2, h3, h4⟩ := mT_iff.mp h
    refine mT_iff.mpr ⟨h1, ks, h2.eq he h1.1 h1.2 (fun j hj => ?_), fun hT => ?_, ?_⟩
    · split at h4
      · have := h4.1.mem j hj; exact hn j this.1 this.2.1 this.2.2
      · have := h4.mem j hj; exact hn j this.1 this.2.1 this.2.2
    · obtain ⟨t, q1, q2⟩ := h3 hT
      exact ⟨t, q1, q2.eq he h1.1 h1.2⟩
    · split at h4
      · rename_i hk
        rw [if_pos hk]
        exact ⟨h4.1.eq he, h4.2⟩
      · rename_i hk
        rw [if_neg hk]
        have key : ∀ (cs : List zNd), (∀ y ∈ cs, y ∈ tCs x) → ∀ js, mRo T S lo hi i cs js → mRo T S' lo hi i cs js := by
          intro cs
          induction cs with
          | nil => intro _ js hr; exact hr
          | cons y cs ihc =>
            rintro hm js ⟨j, js', a, b, rfl, g2, g3, g4⟩
            exact ⟨j, js', a, b, rfl, g2, ih y (hm y List.mem_cons_self) g3 (he.sub g2.1 g2.2.1) (fun q q1 q2 q3 => hn q (by omega) (by omega) (by omega)), ihc (fun z hz => hm z (List.mem_cons_of_mem _ hz)) js' g4⟩
        exact key _ (fun y hy => hy) ks h4
theorem mT.wide {T : Bool} {S : zS} {x : zNd} {lo hi lo' hi' i : Nat} (h : mT T S lo hi x i) (h1 : lo' ≤ lo) (h2 : hi ≤ hi') : mT T S lo' hi' x i := by
  obtain ⟨g1, ks, g2, g3, g4⟩ := mT_iff.mp h
  refine mT_iff.mpr ⟨⟨by omega, by omega⟩, ks, g2, g3, ?_⟩
  split at g4
  · rename_i hk
    rw [if_pos hk]
    refine ⟨?_, g4.2⟩
    have key : ∀ js ks, mKy S lo hi i js ks → mKy S lo' hi' i js ks := by
      intro js
      induction js with
      | nil => intro ks hk; cases ks with | nil => trivial | cons => exact hk.elim
      | cons j js ih =>
        intro ks hk
        cases ks with
        | nil => exact hk.elim
        | cons k ks => exact ⟨⟨by have := hk.1; omega, by have := hk.1; omega, hk.1.2.2⟩, hk.2.1, hk.2.2.1, hk.2.2.2.1, ih ks hk.2.2.2.2⟩
    exact key _ _ g4.1
  · rename_i hk
    rw [if_neg hk]
    have key : ∀ cs js, mRo T S lo hi i cs js → mRo T S lo' hi' i cs js := by
      intro cs
      induction cs with
      | nil => intro js hr; exact hr
      | cons y cs ih =>
        rintro js ⟨j, js', a, b, q1, q2, q3, q4⟩
        exact ⟨j, js', a, b, q1, ⟨by omega, by omega, q2.2.2⟩, q3, ih js' q4⟩
    exact key _ _ g4

