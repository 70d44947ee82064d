set_option maxRecDepth 100000
/-! ===== trees: a row of siblings, each with its place, its kind, its value, its keys and the row of what is in it ===== -/
abbrev zPay : Type := Nat × Nat × List Nat
abbrev zTr : Type := Std.DTreeMap.Internal.Impl zPay (fun _ => Unit)
/-- one tree: place, (kind, value, keys), what is in it -/
abbrev zNd : Type := Nat × zPay × zTr
def sibs : zTr → List zNd
  | .leaf => []
  | .inner p c _ f n => (p, c, f) :: sibs n
def ofs : List zNd → zTr
  | [] => .leaf
  | x :: l => .inner x.1 x.2.1 () x.2.2 (ofs l)
theorem sibs_ofs : ∀ l : List zNd, sibs (ofs l) = l := by
  intro l
  induction l with
  | nil => rfl
  | cons x l ih => show (x.1, x.2.1, x.2.2) :: sibs (ofs l) = _; rw [ih]
theorem ofs_sibs : ∀ t : zTr, ofs (sibs t) = t := by
  intro t
  induction t with
  | leaf => rfl
  | inner p c u f n _ ih => show Std.DTreeMap.Internal.Impl.inner p c () f (ofs (sibs n)) = _; rw [ih]
def tPl (x : zNd) : Nat := x.1
def tK (x : zNd) : Nat := x.2.1.1
def tV (x : zNd) : Nat := x.2.1.2.1
def tKs (x : zNd) : List Nat := x.2.1.2.2
def tCs (x : zNd) : List zNd := sibs x.2.2
def tN (k v : Nat) (ks : List Nat) (p : Nat) (cs : List zNd) : zNd := (p, (k, v, ks), ofs cs)
theorem tN_K {k v p : Nat} {ks : List Nat} {cs : List zNd} : tK (tN k v ks p cs) = k := rfl
theorem tN_V {k v p : Nat} {ks : List Nat} {cs : List zNd} : tV (tN k v ks p cs) = v := rfl
theorem tN_P {k v p : Nat} {ks : List Nat} {cs : List zNd} : tPl (tN k v ks p cs) = p := rfl
theorem tN_Ks {k v p : Nat} {ks : List Nat} {cs : List zNd} : tKs (tN k v ks p cs) = ks := rfl
theorem tN_Cs {k v p : Nat} {ks : List Nat} {cs : List zNd} : tCs (tN k v ks p cs) = cs := sibs_ofs cs
theorem tN_eta (x : zNd) : tN (tK x) (tV x) (tKs x) (tPl x) (tCs x) = x := by
  obtain ⟨p, ⟨k, v, ks⟩, f⟩ := x
  show (p, (k, v, ks), ofs (sibs f)) = _
  rw [ofs_sibs]
theorem zTr_ind0 {C : zNd → Prop} (h : ∀ x, (∀ y ∈ tCs x, C y) → C x) : ∀ t : zTr, ∀ y ∈ sibs t, C y := by
  intro t
  induction t with
  | leaf => intro y hy; cases hy
  | inner p c u f n ihf ihn =>
    intro y hy
    rcases List.mem_cons.mp hy with rfl | hy
    · exact h _ ihf
    · exact ihn y hy
theorem zTr_ind {C : zNd → Prop} (h : ∀ x, (∀ y ∈ tCs x, C y) → C x) (x : zNd) : C x := h x (zTr_ind0 h x.2.2)
/-- by what is said of the parts -/
def tF {α : Type} (g : zNd → List α → α) : zTr → List α
  | .leaf => []
  | .inner p c _ f n => g (p, c, f) (tF g f) :: tF g n
def tR {α : Type} (g : zNd → List α → α) (x : zNd) : α := g x (tF g x.2.2)
theorem tF_map {α : Type} (g : zNd → List α → α) : ∀ t : zTr, tF g t = (sibs t).map (tR g) := by
  intro t
  induction t with
  | leaf => rfl
  | inner p c u f n _ ih => show g (p, c, f) (tF g f) :: tF g n = tR g (p, c, f) :: (sibs n).map (tR g); rw [ih]; rfl
theorem tR_eq {α : Type} (g : zNd → List α → α) (x : zNd) : tR g x = g x ((tCs x).map (tR g)) := by
  show g x (tF g x.2.2) = _
  rw [tF_map]
  rfl

