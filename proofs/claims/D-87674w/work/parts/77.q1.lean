set_option maxRecDepth 100000
/-! ===== reading a text, plainly ===== -/
abbrev pE (α : Type) : Type := Except (Nat × Nat) α
section Q1
variable (tp : Nat → Nat) (sz : Nat)
def pSee (at0 : Nat) : Nat := if at0 < sz then tp at0 else 0
def pWb (c : Nat) : Prop := (97 ≤ c ∧ c ≤ 122) ∨ (48 ≤ c ∧ c ≤ 57) ∨ c = 95
/-- where a word ends -/
noncomputable def pWEn : Nat → Nat → Nat
  | 0, e => e
  | n + 1, e => @ite _ (e < sz ∧ pWb (tp e)) (Classical.propDecidable _) (pWEn n (e + 1)) e
noncomputable def pWE (at0 : Nat) : Nat := pWEn tp sz (sz - at0) at0
def pWl (a e : Nat) : List Nat := (List.range (e - a)).map (fun i => tp (a + i))
def pWant (c at0 : Nat) : pE Nat := if pSee tp sz at0 = c then .ok (at0 + 1) else .error (1, at0)
def pLet (lo hi at0 : Nat) : pE (Nat × Nat) := if lo ≤ pSee tp sz at0 ∧ pSee tp sz at0 ≤ hi then .ok (pSee tp sz at0 - lo, at0 + 1) else .error (1, at0)
def pDig (at0 : Nat) : Prop := 48 ≤ pSee tp sz at0 ∧ pSee tp sz at0 ≤ 57
noncomputable def pNumL : Nat → Nat → Nat → pE (Nat × Nat)
  | 0, v, at0 => .ok (v, at0)
  | n + 1, v, at0 => @ite _ (pDig tp sz at0) (Classical.propDecidable _) (if 2147483647 < 10 * v + (pSee tp sz at0 - 48) then .error (1, at0) else pNumL n (10 * v + (pSee tp sz at0 - 48)) (at0 + 1)) (.ok (v, at0))
noncomputable def pNum (at0 : Nat) : pE (Nat × Nat) := if 49 ≤ pSee tp sz at0 ∧ pSee tp sz at0 ≤ 57 then pNumL tp sz (sz - at0) 0 at0 else .error (1, at0)
/-- the words -/
def kwd : List (List Nat × Nat) := [(ztn 15, 0), (ztn 16, 1), (ztn 18, 2), (ztn 19, 3), (ztn 6, 4), (ztn 7, 5), (ztn 11, 6), (ztn 12, 7), (ztn 13, 8), (ztn 14, 9), (ztn 21, 10), (ztn 23, 11), (ztn 24, 12), (ztn 25, 13), (ztn 26, 14), (ztn 27, 15), (ztn 28, 16), (ztn 10, 17), (ztn 20, 18), (ztn 5, 100), (ztn 17, 101), (ztn 22, 102)]
def pKind (w : List Nat) : Option Nat := kwd.lookup w
def pWr (c : Nat) : Option Nat := [(97, 19), (115, 20), (99, 21), (100, 22), (118, 23), (106, 24), (110, 25), (116, 103), (108, 104), (117, 105)].lookup c
def pRead (place deep rd : Nat) (two : Bool) : pE Nat := if 80 < rd + (bif two then 2 else 1) ∨ 24 < deep + (bif two then 1 else 0) then .error (2, place) else .ok (rd + (bif two then 2 else 1))
noncomputable def pJ (x : zNd) : pE zNd := match ty x with
  | some _ => .ok x
  | none => .error (3, tPl x)
noncomputable def pWrap (w : Nat) (x : zNd) (p : Nat) : pE zNd :=
  if w < 100 then pJ (tN w 0 [] p [x])
  else if w = 103 then pJ (tN 11 0 [] p [x, tN 1 0 [] p []])
  else if w = 104 then pJ (tN 16 0 [] p [tN 0 0 [] p [], x])
  else pJ (tN 16 0 [] p [x, tN 0 0 [] p []])
/-- the wrappers' letters: the first that is none; their nodes; they are put around -/
def pBad : List Nat → Nat → pE Unit
  | [], _ => .ok ()
  | c :: cs, p => match pWr c with
    | none => .error (1, p)
    | some _ => pBad cs (p + 1)
def pReads : List Nat → Nat → Nat → Nat → pE Nat
  | [], _, _, rd => .ok rd
  | c :: cs, p, deep, rd => do
    let rd1 ← pRead p deep rd (decide (100 < (pWr c).getD 0))
    pReads cs (p + 1) (deep + 1) rd1
noncomputable def pWraps : List Nat → Nat → zNd → pE zNd
  | [], _, x => .ok x
  | c :: cs, p, x => do
    let y ← pWraps cs (p + 1) x
    pWrap ((pWr c).getD 0) y p
/-- a row of things behind commas -/
def pItems {α : Type} (it : Nat → Nat → pE (α × Nat × Nat)) (most : Nat) : Nat → Nat → Nat → Nat → pE (List α × Nat × Nat)
  | 0, _, at0, rd => .ok ([], at0, rd)
  | n + 1, got, at0, rd =>
    if got = 0 ∨ pSee tp sz at0 = 44 then
      if got = most then .error (1, at0) else do
        let at1 ← pWant tp sz 44 at0
        let q ← it at1 rd
        let r ← pItems it most n (got + 1) q.2.1 q.2.2
        .ok (q.1 :: r.1, r.2)
    else .ok ([], at0, rd)
def pKey (at0 rd : Nat) : pE (Nat × Nat × Nat) := do
  let q ← pLet tp sz 65 80 at0
  .ok (q.1, q.2, rd)
/-- what stands in brackets -/
noncomputable def pIn (rec : Nat → Nat → Nat → pE (zNd × Nat × Nat)) (k p deep at0 rd : Nat) : pE (zNd × Nat × Nat) :=
  if k = 2 ∨ k = 3 ∨ k = 100 ∨ k = 101 then do
    let q ← pLet tp sz 65 80 at0
    let at1 ← pWant tp sz 41 q.2
    let x ← pJ (tN (if k = 2 ∨ k = 100 then 2 else 3) q.1 [] p [])
    let y ← (if k < 100 then .ok x else pWrap 21 x p)
    .ok (y, at1, rd)
  else if k < 10 then do
    let q ← (if k < 6 then pNum tp sz at0 else pLet tp sz 48 55 at0)
    let at1 ← pWant tp sz 41 q.2
    let x ← pJ (tN k q.1 [] p [])
    .ok (x, at1, rd)
  else if k = 17 then do
    let q ← pNum tp sz at0
    let r ← pItems tp sz (rec (deep + 1)) 12 13 0 q.2 rd
    if r.1.length < q.1 then .error (1, r.2.1) else do
      let at1 ← pWant tp sz 41 r.2.1
      let x ← pJ (tN 17 q.1 [] p r.1)
      .ok (x, at1, r.2.2)
  else if k = 18 then do
    let q ← pNum tp sz at0
    let r ← pItems tp sz (pKey tp sz) 16 17 0 q.2 rd
    if r.1.length < q.1 then .error (1, r.2.1) else do
      let at1 ← pWant tp sz 41 r.2.1
      let x ← pJ (tN 18 q.1 r.1 p [])
      .ok (x, at1, r.2.2)
  else do
    let a ← rec (deep + 1) at0 rd
    let at1 ← pWant tp sz 44 a.2.1
    let b ← rec (deep + 1) at1 a.2.2
    if k = 10 then do
      let at2 ← pWant tp sz 44 b.2.1
      let c ← rec (deep + 1) at2 b.2.2
      let at3 ← pWant tp sz 41 c.2.1
      let x ← pJ (tN 10 0 [] p [a.1, b.1, c.1])
      .ok (x, at3, c.2.2)
    else do
      let at3 ← pWant tp sz 41 b.2.1
      let x ← pJ (if k = 102 then tN 10 0 [] p [a.1, b.1, tN 0 0 [] p []] else tN k 0 [] p [a.1, b.1])
      .ok (x, at3, b.2.2)
noncomputable def pNamed (rec : Nat → Nat → Nat → pE (zNd × Nat × Nat)) (deep at0 rd : Nat) : pE (zNd × Nat × Nat) :=
  match pKind (pWl tp at0 (pWE tp sz at0)) with
  | none => .error (1, at0)
  | some k => do
    let rd1 ← pRead at0 deep rd (decide (100 ≤ k))
    if k < 2 then do
      let x ← pJ (tN k 0 [] at0 [])
      .ok (x, pWE tp sz at0, rd1)
    else do
      let at1 ← pWant tp sz 40 (pWE tp sz at0)
      pIn tp sz rec k at0 deep at1 rd1
noncomputable def pF : Nat → Nat → Nat → Nat → pE (zNd × Nat × Nat)
  | 0, _, at0, _ => .error (1, at0)
  | f + 1, deep, at0, rd =>
    if pWE tp sz at0 = at0 then .error (1, at0)
    else if pWE tp sz at0 < sz ∧ tp (pWE tp sz at0) = 58 then do
      let _ ← pBad (pWl tp at0 (pWE tp sz at0)) at0
      let rd1 ← pReads (pWl tp at0 (pWE tp sz at0)) at0 deep rd
      if pWE tp sz (pWE tp sz at0 + 1) = pWE tp sz at0 + 1 then .error (1, pWE tp sz at0 + 1) else do
        let q ← pNamed tp sz (pF f) (deep + (pWE tp sz at0 - at0)) (pWE tp sz at0 + 1) rd1
        let x ← pWraps (pWl tp at0 (pWE tp sz at0)) at0 q.1
        .ok (x, q.2.1, q.2.2)
    else pNamed tp sz (pF f) deep at0 rd
end Q1

