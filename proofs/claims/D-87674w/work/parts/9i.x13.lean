set_option maxRecDepth 100000
/-! ===== the house makes nodes ===== -/
/-- a tree among what is there from lo on -/
def xTl (lo : Nat) (S : zS) (x : zNd) (a : Nat) : Prop := xT (fun j => lo ≤ j ∧ j < gN S) S x a
/-- all that but for a -/
def xPa (lo : Nat) (S : zS) (a : Nat) : Nat → Prop := fun j => (lo ≤ j ∧ j < gN S) ∧ j ≠ a
section X13
variable {d : Nat} {post : Outcome × zS → Prop} {tp : Nat → Nat} {sz : Nat}
theorem xOwn_B {P : Nat → Prop} {S : zS} {a k v : Nat} {ks : List Nat} (hk : k < 2) (h1 : ztyp S a = 16) (h2 : gI S 173 a = Int32.ofNat k) : xOwn P S a k v ks [] := by
  unfold xOwn; rw [if_pos hk]; exact ⟨h1, h2, rfl⟩
theorem xOwn_K {P : Nat → Prop} {S : zS} {a k v : Nat} {ks : List Nat} (hk : 2 ≤ k ∧ k < 4) (h1 : ztyp S a = 13) (h2 : gI S 164 a = Int32.ofNat v) (h3 : gI S 165 a = Int32.ofNat (k - 2)) (h4 : gP S 166 a = some 0) (hv : v < 16) : xOwn P S a k v ks [] := by
  unfold xOwn; rw [if_neg (by omega), if_pos hk.2]; exact ⟨h1, h2, h3, h4, hv, rfl⟩
theorem xOwn_T {P : Nat → Prop} {S : zS} {a k v : Nat} {ks : List Nat} (hk : 4 ≤ k ∧ k < 6) (h1 : ztyp S a = 14) (h2 : gI S 167 a = Int32.ofNat v) (h3 : gI S 168 a = Int32.ofNat (5 - k)) (h4 : gP S 169 a = some 0) (hv : 1 ≤ v ∧ v < 2147483648) : xOwn P S a k v ks [] := by
  unfold xOwn; rw [if_neg (by omega), if_neg (by omega), if_pos hk.2]; exact ⟨h1, h2, h3, h4, hv, rfl⟩
theorem xOwn_I {P : Nat → Prop} {S : zS} {a k v : Nat} {ks : List Nat} (hk : 6 ≤ k ∧ k < 10) (h1 : ztyp S a = 15) (h2 : gI S 170 a = Int32.ofNat (k - 6)) (h3 : gI S 171 a = Int32.ofNat v) (h4 : gP S 172 a = some 0) (hv : v < 8) : xOwn P S a k v ks [] := by
  unfold xOwn; rw [if_neg (by omega), if_neg (by omega), if_neg (by omega), if_pos hk.2]; exact ⟨h1, h2, h3, h4, hv, rfl⟩
theorem xOwn_A {P : Nat → Prop} {S : zS} {a v x y w : Nat} {ks : List Nat} (h1 : ztyp S a = 19) (h2 : gP S 183 a = some x) (h3 : gP S 184 a = some y) (h4 : gP S 185 a = some w) : xOwn P S a 10 v ks [x, y, w] := by
  unfold xOwn; rw [if_neg (by omega), if_neg (by omega), if_neg (by omega), if_neg (by omega), if_pos rfl]; exact ⟨h1, x, y, w, rfl, h2, h3, h4⟩
theorem xOwn_P {P : Nat → Prop} {S : zS} {a k v x y : Nat} {ks : List Nat} (hk : 11 ≤ k ∧ k < 17) (h1 : ztyp S a = 20) (h0 : gI S 187 a = Int32.ofNat (k - 11)) (h2 : gP S 188 a = some x) (h3 : gP S 189 a = some y) : xOwn P S a k v ks [x, y] := by
  unfold xOwn; rw [if_neg (by omega), if_neg (by omega), if_neg (by omega), if_neg (by omega), if_neg (by omega), if_pos hk.2]; exact ⟨h1, h0, x, y, rfl, h2, h3⟩
theorem xOwn_H {P : Nat → Prop} {S : zS} {a v R : Nat} {ks js : List Nat} (h1 : ztyp S a = 18) (h2 : gI S 179 a = Int32.ofNat v) (h3 : gI S 180 a = Int32.ofNat js.length) (h4 : 1 ≤ v ∧ v ≤ js.length ∧ js.length ≤ 12) (h5 : P R) (h6 : gP S 181 a = some R) (h7 : ztyp S R = 113) (h8 : js.length ≤ zlen S R ∧ zlen S R ≤ 100) (h9 : ∀ i, i < js.length → gQ S R i = some (js.getD i 0)) : xOwn P S a 17 v ks js := by
  unfold xOwn; rw [if_neg (by omega), if_neg (by omega), if_neg (by omega), if_neg (by omega), if_neg (by omega), if_neg (by omega), if_pos rfl]; exact ⟨h1, h2, h3, h4, R, h5, h6, h7, h8, h9⟩
theorem xOwn_U {P : Nat → Prop} {S : zS} {a v R : Nat} {ks : List Nat} (h1 : ztyp S a = 17) (h2 : gI S 175 a = Int32.ofNat v) (h3 : gI S 176 a = Int32.ofNat ks.length) (h4 : 1 ≤ v ∧ v ≤ ks.length ∧ ks.length ≤ 16) (h0 : gP S 178 a = some 0) (hk : ∀ x ∈ ks, x < 16) (h5 : P R) (h6 : gP S 177 a = some R) (h7 : ztyp S R = 100) (h8 : ks.length ≤ zlen S R ∧ zlen S R ≤ 100) (h9 : ∀ i, i < ks.length → gA S R i = Int32.ofNat (ks.getD i 0)) : xOwn P S a 18 v ks [] := by
  unfold xOwn; rw [if_neg (by omega), if_neg (by omega), if_neg (by omega), if_neg (by omega), if_neg (by omega), if_neg (by omega), if_neg (by omega), if_pos rfl]; exact ⟨h1, h2, h3, h4, h0, hk, rfl, R, h5, h6, h7, h8, h9⟩
theorem xOwn_W {P : Nat → Prop} {S : zS} {a k v x : Nat} {ks : List Nat} (hk : 19 ≤ k ∧ k < 26) (h1 : ztyp S a = 11) (h2 : gI S 160 a = Int32.ofNat (wch k)) (h3 : gP S 161 a = some x) : xOwn P S a k v ks [x] := by
  unfold xOwn; rw [if_neg (by omega), if_neg (by omega), if_neg (by omega), if_neg (by omega), if_neg (by omega), if_neg (by omega), if_neg (by omega), if_neg (by omega)]; exact ⟨hk.2, h1, h2, x, rfl, h3⟩
theorem xTl.fr {S S' : zS} {lo lo' : Nat} {x : zNd} {i : Nat} (h : xTl lo S x i) (k : zKE (gN S) [] xFs S S') (hl : lo' ≤ lo) : xTl lo' S' x i :=
  xT.em (xEq.ke k (fun j hj => ⟨hj.2, by simp⟩) (by decide)) (fun j hj => ⟨Nat.le_trans hl hj.1, Nat.lt_of_lt_of_le hj.2 k.1.1⟩) h
theorem xTl.ch {S S' : zS} {lo lo' : Nat} {x : zNd} {i a : Nat} (h : xTl lo S x i) (k : zKE (gN S) [] xFs S S') (hl : lo' ≤ lo) (ha : ∀ j, lo ≤ j → j < gN S → j ≠ a) : xT (xPa lo' S' a) S' x i :=
  xT.em (xEq.ke k (fun j hj => ⟨hj.2, by simp⟩) (by decide)) (fun j hj => ⟨⟨Nat.le_trans hl hj.1, Nat.lt_of_lt_of_le hj.2 k.1.1⟩, ha j hj.1 hj.2⟩) h
theorem xR.jd {S S' : zS} {r at0 nd a : Nat} (h : xR tp sz S r at0 nd) (k : xJd S a S') : xR tp sz S' r at0 nd := by
  obtain ⟨⟨g1, g2, g3, g4, g5⟩, g6, g7, g8, g9, g10⟩ := h
  have e := k.1
  have q : ∀ f b, f ∉ nFl → gI S' f b = gI S f b := fun f b hf => k.2 f b (Or.inr hf)
  have qP : ∀ f b, gP S' f b = gP S f b := fun f b => by show S'.2.1 f b = S.2.1 f b; rw [e]
  have qA : ∀ b, gA S' b = gA S b := fun b => by show S'.2.2.1 b = S.2.2.1 b; rw [e]
  have qT : ∀ b, ztyp S' b = ztyp S b := fun b => by unfold ztyp gT; rw [e]
  have qL : ∀ b, zlen S' b = zlen S b := fun b => by unfold zlen gT; rw [e]
  refine ⟨⟨(q _ _ (by decide)).trans g1, (q _ _ (by decide)).trans g2, (q _ _ (by decide)).trans g3, (qT _).trans g4, (qP _ _).trans g5⟩, fun j hj => by rw [qA]; exact g6 j hj, g7, g8, ⟨g9.1, by show r < S'.2.2.2.2.2.2.1; rw [e]; exact g9.2⟩, fun w hw => ?_⟩
  obtain ⟨⟨v, s1, s2, s3, s4, s5, s6, s7, s8⟩, s9⟩ := g10 w hw
  exact ⟨⟨v, (qT _).trans s1, (qP _ _).trans s2, (q _ _ (by decide)).trans s3, by rw [qT]; exact s4, (qL _).trans s5, fun j hj => by rw [qA]; exact s6 j hj, s7, s8⟩, (qP _ _).trans s9⟩
theorem xJd.I {S S' : zS} {n f a : Nat} (k : xJd S n S') (h : a ≠ n) : gI S' f a = gI S f a := k.2 f a (Or.inl h)
theorem xJd.P {S S' : zS} {n f a : Nat} (k : xJd S n S') : gP S' f a = gP S f a := by show S'.2.1 f a = S.2.1 f a; rw [k.1]
theorem xJd.T {S S' : zS} {n a : Nat} (k : xJd S n S') : ztyp S' a = ztyp S a := by unfold ztyp gT; rw [k.1]
theorem xJd.Len {S S' : zS} {n a : Nat} (k : xJd S n S') : zlen S' a = zlen S a := by unfold zlen gT; rw [k.1]
theorem xJd.A {S S' : zS} {n a : Nat} (k : xJd S n S') : gA S' a = gA S a := by show S'.2.2.1 a = S.2.2.1 a; rw [k.1]
theorem xJd.L {S S' : zS} {n a : Nat} (k : xJd S n S') : gL S' a = gL S a := by show S'.2.2.2.1 a = S.2.2.2.1 a; rw [k.1]
theorem xJd.Q {S S' : zS} {n a : Nat} (k : xJd S n S') : gQ S' a = gQ S a := by show S'.2.2.2.2.1 a = S.2.2.2.2.1 a; rw [k.1]
/-- a fresh node's type does not count -/
theorem xJd.ke {S S' : zS} {N a : Nat} {Fs : List Nat} (k : xJd S a S') (h : N ≤ a ∧ a < zLB) : zKE N [] Fs S S' := by
  have e := k.1
  refine ⟨⟨by show S.2.2.2.2.2.2.1 ≤ S'.2.2.2.2.2.2.1; rw [e]; exact Nat.le_refl _, by show S.2.2.2.2.2.2.2 ≤ S'.2.2.2.2.2.2.2; rw [e]; exact Nat.le_refl _⟩, fun c hc => ⟨?_, fun _ => ⟨fun f _ => ⟨k.2 f c (Or.inl (by omega)), ?_⟩, ?_, ?_, ?_⟩⟩⟩
  · show S'.2.2.2.2.2.1 c = S.2.2.2.2.2.1 c; rw [e]
  · show S'.2.1 f c = S.2.1 f c; rw [e]
  · show S'.2.2.1 c = S.2.2.1 c; rw [e]
  · show S'.2.2.2.1 c = S.2.2.2.1 c; rw [e]
  · show S'.2.2.2.2.1 c = S.2.2.2.2.1 c; rw [e]
theorem xFn.ke {S S' : zS} {N a : Nat} (k : xFn S a S') (hN : N ≤ gN S) (h : N ≤ a ∧ a < zLB) : zKE N [] xFs S S' := by
  refine ⟨k.1, fun c hc => ?_⟩
  obtain ⟨q1, q2⟩ := k.2 c (by omega)
  exact ⟨q1, fun _ => q2 (fun e => by have := List.mem_singleton.mp e; omega)⟩
theorem x_judgeR {S : zS} (hF : zFin true S) (hd : 2 ≤ d) {r at0 nd a k v p g lo : Nat} {ks js : List Nat} {cs : List zNd} (hlo : 1639 ≤ lo) (ha0 : lo ≤ a) (ha : a < g) (hN2 : g < 1900000) (hg : gN S = g) (hO : xOwn (fun j => lo ≤ j ∧ j < gN S) S a k v ks js) (hcs : xTs (xPa lo S a) S cs js) (hk : k < 26) (hv0 : (10 ≤ k ∧ k < 17) ∨ 19 ≤ k → v = 0) (hpl : gI S 144 a = Int32.ofNat p) (hm0 : gI S 156 a = 0) (ht0 : gI S 146 a = 0) (hR : xR tp sz S r at0 nd) (_ : 0 ≤ g)
    (h1 : ∀ S', zFin true S' → pJ (tN k v ks p cs) = .ok (tN k v ks p cs) → xJd S a S' → xTl lo S' (tN k v ks p cs) a → xR tp sz S' r at0 nd → gN S' = g ∧ gZ S' = gZ S → post (.returned none, S'))
    (h2 : ∀ S' q, zFin true S' → pJ (tN k v ks p cs) = .error (3, p) → xFn S a S' → xFl S' q 3 p → gN S' = g + 1 ∧ gZ S' ≤ gZ S + 3 → post (.threw q, S')) : zCall d (jme k) [.ref a] S post := by
  subst hg
  refine x_judge (P := xPa lo S a) (a := a) hF hd (by omega) ha hN2 (hO.mono (fun j hj => ?_)) (fun j hj => ⟨hj.1.2, hj.2⟩) hcs hk hv0 hpl hm0 ht0 (fun S' f1 e1 j1 t1 => ?_) (fun S' q f1 e1 k1 x1 g1 => h2 S' q f1 e1 k1 x1 ⟨g1.1.symm, g1.2⟩)
  · by_cases e : j = a
    · exact Or.inr e
    · exact Or.inl ⟨hj, e⟩
  · have eN : gN S' = gN S := by show S'.2.2.2.2.2.2.1 = _; rw [j1.1]; rfl
    have eZ : gZ S' = gZ S := by show S'.2.2.2.2.2.2.2 = _; rw [j1.1]; rfl
    refine h1 S' f1 e1 j1 (xT.em xEq.rf (fun j hj => ?_) t1) (hR.jd j1) ⟨eN, eZ⟩
    rcases hj with h | h
    · exact ⟨h.1.1, by rw [eN]; exact h.1.2⟩
    · subst h; exact ⟨ha0, by rw [eN]; exact ha⟩
end X13
theorem ky2 {d : Nat} {S : zS} (hF : zFin true S) (hd : 4 ≤ d) {tp : Nat → Nat} {sz at0 nd r : Nat} (p : Nat) (hR : xR tp sz S r at0 nd) (hs0 : sz ≤ 300) (ha0 : at0 ≤ sz) (hr1 : 1639 ≤ r) (hr2 : r < gN S) (hN2 : gN S < 1800000) (hp : p ≤ 300) {post : Outcome × zS → Prop} (h1 : ∀ S1 : zS, (zFin true S1) → (pWant tp sz 40 at0 = .ok (at0 + 1)) → (xFr S S1) → (xR tp sz S1 r (at0 + 1) nd) → (gN S ≤ gN S1 ∧ gN S1 ≤ gN S + 0 ∧ gZ S1 ≤ gZ S + 0) → ((at0 + 1) ≤ sz) → ∀ S3 : zS, ∀ v3 : Nat, (zFin true S3) → (pLet tp sz 65 80 (at0 + 1) = .ok (v3, at0 + 2)) → (xFr S1 S3) → (xR tp sz S3 r (at0 + 2) nd) → (gN S1 ≤ gN S3 ∧ gN S3 ≤ gN S1 + 0 ∧ gZ S3 ≤ gZ S1 + 0) → ((at0 + 2) ≤ sz) → (v3 ≤ 15) → ∀ S5 : zS, (zFin true S5) → (pWant tp sz 41 (at0 + 2) = .ok (at0 + 3)) → (xFr S3 S5) → (xR tp sz S5 r (at0 + 3) nd) → (gN S3 ≤ gN S5 ∧ gN S5 ≤ gN S3 + 0 ∧ gZ S5 ≤ gZ S3 + 0) → ((at0 + 3) ≤ sz) → ∀ S22 : zS, (zFin true S22) → (pJ (tN 2 v3 [] p []) = .ok (tN 2 v3 [] p [])) → (xJd (sI (sI (sI (sP (sNew S5 13 0 (zslots 13)) 166 (gN S5) (some 0)) 144 (gN S5) (Int32.ofNat p)) 164 (gN S5) (Int32.ofNat v3)) 165 (gN S5) 0) (gN S5) S22) → (xTl (gN S) S22 (tN 2 v3 [] p []) (gN S5)) → (xR tp sz S22 r (at0 + 3) nd) → (gN S22 = gN S5 + 1 ∧ gZ S22 = gZ S5 + 20) → post (.returned (some (.ref (gN S5))), S22)) (h2 : ∀ S1 : zS, (zFin true S1) → (pWant tp sz 40 at0 = .ok (at0 + 1)) → (xFr S S1) → (xR tp sz S1 r (at0 + 1) nd) → (gN S ≤ gN S1 ∧ gN S1 ≤ gN S + 0 ∧ gZ S1 ≤ gZ S + 0) → ((at0 + 1) ≤ sz) → ∀ S3 : zS, ∀ v3 : Nat, (zFin true S3) → (pLet tp sz 65 80 (at0 + 1) = .ok (v3, at0 + 2)) → (xFr S1 S3) → (xR tp sz S3 r (at0 + 2) nd) → (gN S1 ≤ gN S3 ∧ gN S3 ≤ gN S1 + 0 ∧ gZ S3 ≤ gZ S1 + 0) → ((at0 + 2) ≤ sz) → (v3 ≤ 15) → ∀ S5 : zS, (zFin true S5) → (pWant tp sz 41 (at0 + 2) = .ok (at0 + 3)) → (xFr S3 S5) → (xR tp sz S5 r (at0 + 3) nd) → (gN S3 ≤ gN S5 ∧ gN S5 ≤ gN S3 + 0 ∧ gZ S5 ≤ gZ S3 + 0) → ((at0 + 3) ≤ sz) → ∀ S23 : zS, ∀ q23 : Nat, (zFin true S23) → (pJ (tN 2 v3 [] p []) = .error (3, p)) → (xFn (sI (sI (sI (sP (sNew S5 13 0 (zslots 13)) 166 (gN S5) (some 0)) 144 (gN S5) (Int32.ofNat p)) 164 (gN S5) (Int32.ofNat v3)) 165 (gN S5) 0) (gN S5) S23) → (xFl S23 q23 3 p) → (gN S23 = gN S5 + 1 + 1 ∧ gZ S23 ≤ gZ S5 + 20 + 3) → post (.threw q23, S23)) (h3 : ∀ S1 : zS, (zFin true S1) → (pWant tp sz 40 at0 = .ok (at0 + 1)) → (xFr S S1) → (xR tp sz S1 r (at0 + 1) nd) → (gN S ≤ gN S1 ∧ gN S1 ≤ gN S + 0 ∧ gZ S1 ≤ gZ S + 0) → ((at0 + 1) ≤ sz) → ∀ S3 : zS, ∀ v3 : Nat, (zFin true S3) → (pLet tp sz 65 80 (at0 + 1) = .ok (v3, at0 + 2)) → (xFr S1 S3) → (xR tp sz S3 r (at0 + 2) nd) → (gN S1 ≤ gN S3 ∧ gN S3 ≤ gN S1 + 0 ∧ gZ S3 ≤ gZ S1 + 0) → ((at0 + 2) ≤ sz) → (v3 ≤ 15) → ∀ S6 : zS, ∀ q6 : Nat, (zFin true S6) → (pWant tp sz 41 (at0 + 2) = .error (1, at0 + 2)) → (xFr S3 S6) → (xFl S6 q6 1 (at0 + 2)) → (gN S3 ≤ gN S6 ∧ gN S6 ≤ gN S3 + 1 ∧ gZ S6 ≤ gZ S3 + 3) → post (.threw q6, S6)) (h4 : ∀ S1 : zS, (zFin true S1) → (pWant tp sz 40 at0 = .ok (at0 + 1)) → (xFr S S1) → (xR tp sz S1 r (at0 + 1) nd) → (gN S ≤ gN S1 ∧ gN S1 ≤ gN S + 0 ∧ gZ S1 ≤ gZ S + 0) → ((at0 + 1) ≤ sz) → ∀ S4 : zS, ∀ q4 : Nat, (zFin true S4) → (pLet tp sz 65 80 (at0 + 1) = .error (1, at0 + 1)) → (xFr S1 S4) → (xFl S4 q4 1 (at0 + 1)) → (gN S1 ≤ gN S4 ∧ gN S4 ≤ gN S1 + 1 ∧ gZ S4 ≤ gZ S1 + 3) → post (.threw q4, S4)) (h5 : ∀ S2 : zS, ∀ q2 : Nat, (zFin true S2) → (pWant tp sz 40 at0 = .error (1, at0)) → (xFr S S2) → (xFl S2 q2 1 at0) → (gN S ≤ gN S2 ∧ gN S2 ≤ gN S + 1 ∧ gZ S2 ≤ gZ S + 3) → post (.threw q2, S2)) : zCall d 249 [.ref r, .int (Int32.ofNat p), .int 0] S post := by
  have ht : ztab 249 = ztb249 := rfl
  show zEv d 249 0 [.ref r, .int (Int32.ofNat p), .int 0, .retAddr 0] [] S post
  refine zv_c1 ht rfl rfl (zv_c1 ht rfl rfl ?_)
  refine zv_cl ht rfl rfl rfl (zv_tgv (hR.1.2.2.2.1) rfl) (by omega) (Nat.le_of_ble_eq_true rfl) (x_take (S := S) (tp := tp) (sz := sz) (r := r) (w := 40) hF (by omega) hR (by omega) (by omega) (by omega) (fun S1 hF1 e1 k1 p1 g1 b1 => ?_) (fun S2 q2 hF2 e2 k2 x2 g2 => ?_))
  · show zEv d 249 6 [.ref r, .int (Int32.ofNat p), .int 0, .retAddr 0] [] S1 post
    refine zv_c1 ht rfl rfl ?_
    refine zv_cl ht rfl rfl rfl (zv_tgv (p1.1.2.2.2.1) rfl) (by omega) (Nat.le_of_ble_eq_true rfl) (x_key (S := S1) (tp := tp) (sz := sz) (r := r) hF1 (by omega) p1 (by omega) (fun S3 v3 hF3 e3 k3 p3 g3 b3 c3 => ?_) (fun S4 q4 hF4 e4 k4 x4 g4 => ?_))
    · show zEv d 249 10 [.ref r, .int (Int32.ofNat p), .int 0, .retAddr 0] [.int (Int32.ofNat v3)] S3 post
      refine zv_c2 (L' := [.ref r, .int (Int32.ofNat p), .int 0, .int (Int32.ofNat v3)]) ht rfl rfl ?_
      refine zv_c1 ht rfl rfl (zv_c1 ht rfl rfl ?_)
      refine zv_cl ht rfl rfl rfl (zv_tgv (p3.1.2.2.2.1) rfl) (by omega) (Nat.le_of_ble_eq_true rfl) (x_take (S := S3) (tp := tp) (sz := sz) (r := r) (w := 41) hF3 (by omega) p3 (by omega) (by omega) (by omega) (fun S5 hF5 e5 k5 p5 g5 b5 => ?_) (fun S6 q6 hF6 e6 k6 x6 g6 => ?_))
      · show zEv d 249 17 [.ref r, .int (Int32.ofNat p), .int 0, .int (Int32.ofNat v3)] [] S5 post
        refine zv_c1 ht rfl rfl ?_
        refine zv_ci (st' := [.ref (gN S5), .ref r]) (S' := sNew S5 13 0 (zslots 13)) ht rfl rfl (znew_ok (show 1639 ≤ gN S5 from by omega) (show gN S5 < 2000000 from by omega)) ?_
        refine zv_c1 ht rfl rfl (zv_c1 ht rfl rfl ?_)
        refine zv_g3 (q := 0) ht rfl (zFin_new hF5) rfl rfl (zhas_of (Eq.trans (ztyp_new (S := S5) (t := 13) (n := 0) (s := zslots 13) (show r ≠ gN S5 from by omega)) p5.1.2.2.2.1) rfl) (Eq.trans (gP_new (S := S5) (t := 13) (n := 0) (s := zslots 13) (show r ≠ gN S5 from by omega)) p5.1.2.2.2.2) ?_
        refine zv_c1 ht rfl rfl (zv_c1 ht rfl rfl (zv_c1 ht rfl rfl ?_))
        have C8 : ∀ (pst7 : Outcome × zS → Prop), (pst7 (.returned none, sI (sI (sI (sP (sNew S5 13 0 (zslots 13)) 166 (gN S5) (some 0)) 144 (gN S5) (Int32.ofNat p)) 164 (gN S5) (Int32.ofNat v3)) 165 (gN S5) 0)) → zCall (d - 1) 310 [.ref (gN S5), .ref 0, .int (Int32.ofNat p), .int (Int32.ofNat v3), .int 0] (sNew S5 13 0 (zslots 13)) pst7 := by
          intro pst7 k18
          have ht9 : ztab 310 = ztb310 := rfl
          show zEv (d - 1) 310 0 [.ref (gN S5), .ref 0, .int (Int32.ofNat p), .int (Int32.ofNat v3), .int 0] [] (sNew S5 13 0 (zslots 13)) pst7
          refine zv_c1 ht9 rfl rfl (zv_c1 ht9 rfl rfl ?_)
          refine zv_ci (S' := sP (sNew S5 13 0 (zslots 13)) 166 (gN S5) (some 0)) ht9 rfl rfl ⟨(zhas_of (ztyp_new_at (S := S5) (t := 13) (n := 0) (s := zslots 13) (show 1639 ≤ gN S5 from by omega)) rfl), (show gN S5 < gN S5 + 1 from by omega)⟩ ?_
          refine zv_c1 ht9 rfl rfl (zv_c1 ht9 rfl rfl (zv_c1 ht9 rfl rfl ?_))
          have C11 : ∀ (pst10 : Outcome × zS → Prop), (pst10 (.returned none, sI (sP (sNew S5 13 0 (zslots 13)) 166 (gN S5) (some 0)) 144 (gN S5) (Int32.ofNat p))) → zCall ((d - 1) - 1) 306 [.ref (gN S5), .ref 0, .int (Int32.ofNat p)] (sP (sNew S5 13 0 (zslots 13)) 166 (gN S5) (some 0)) pst10 := by
            intro pst10 k17
            have ht12 : ztab 306 = ztb306 := rfl
            show zEv ((d - 1) - 1) 306 0 [.ref (gN S5), .ref 0, .int (Int32.ofNat p)] [] (sP (sNew S5 13 0 (zslots 13)) 166 (gN S5) (some 0)) pst10
            refine zv_c1 ht12 rfl rfl (zv_c1 ht12 rfl rfl ?_)
            refine zv_ci (S' := sP (sNew S5 13 0 (zslots 13)) 166 (gN S5) (some 0)) ht12 rfl rfl (zk5 (ztyp_new_at (S := S5) (t := 13) (n := 0) (s := zslots 13) (show 1639 ≤ gN S5 from by omega)) rfl (show gN S5 < gN S5 + 1 from by omega) rfl gP_sP_at) ?_
            refine zv_c1 ht12 rfl rfl (zv_c1 ht12 rfl rfl (zv_c1 ht12 rfl rfl ?_))
            have C14 : ∀ (pst13 : Outcome × zS → Prop), (pst13 (.returned none, sI (sP (sNew S5 13 0 (zslots 13)) 166 (gN S5) (some 0)) 144 (gN S5) (Int32.ofNat p))) → zCall (((d - 1) - 1) - 1) 280 [.ref (gN S5), .ref 0, .int (Int32.ofNat p)] (sP (sNew S5 13 0 (zslots 13)) 166 (gN S5) (some 0)) pst13 := by
              intro pst13 k16
              have ht15 : ztab 280 = ztb280 := rfl
              show zEv (((d - 1) - 1) - 1) 280 0 [.ref (gN S5), .ref 0, .int (Int32.ofNat p)] [] (sP (sNew S5 13 0 (zslots 13)) 166 (gN S5) (some 0)) pst13
              refine zv_c1 ht15 rfl rfl (zv_c1 ht15 rfl rfl ?_)
              refine zv_ci (S' := sP (sNew S5 13 0 (zslots 13)) 166 (gN S5) (some 0)) ht15 rfl rfl (zk5 (ztyp_new_at (S := S5) (t := 13) (n := 0) (s := zslots 13) (show 1639 ≤ gN S5 from by omega)) rfl (show gN S5 < gN S5 + 1 from by omega) rfl gP_sP_at) ?_
              refine zv_c1 ht15 rfl rfl (zv_c1 ht15 rfl rfl (zv_c1 ht15 rfl rfl (zv_c1 ht15 rfl rfl ?_)))
              refine zv_ci (S' := sI (sP (sNew S5 13 0 (zslots 13)) 166 (gN S5) (some 0)) 144 (gN S5) (Int32.ofNat p)) ht15 rfl rfl ⟨(zhas_of (ztyp_new_at (S := S5) (t := 13) (n := 0) (s := zslots 13) (show 1639 ≤ gN S5 from by omega)) rfl), (show gN S5 < gN S5 + 1 from by omega)⟩ ?_
              exact zv_rt ht15 rfl rfl rfl rfl k16
            refine zv_cl ht12 rfl rfl rfl rfl (by omega) (Nat.le_of_ble_eq_true rfl) (C14 _ ?_)
            show zEv ((d - 1) - 1) 306 11 [.ref (gN S5), .ref 0, .int (Int32.ofNat p)] [] (sI (sP (sNew S5 13 0 (zslots 13)) 166 (gN S5) (some 0)) 144 (gN S5) (Int32.ofNat p)) pst10
            exact zv_rt ht12 rfl rfl rfl rfl k17
          refine zv_cl ht9 rfl rfl rfl rfl (by omega) (Nat.le_of_ble_eq_true rfl) (C11 _ ?_)
          show zEv (d - 1) 310 11 [.ref (gN S5), .ref 0, .int (Int32.ofNat p), .int (Int32.ofNat v3), .int 0] [] (sI (sP (sNew S5 13 0 (zslots 13)) 166 (gN S5) (some 0)) 144 (gN S5) (Int32.ofNat p)) pst7
          refine zv_c1 ht9 rfl rfl (zv_c1 ht9 rfl rfl ?_)
          refine zv_ci (S' := sI (sI (sP (sNew S5 13 0 (zslots 13)) 166 (gN S5) (some 0)) 144 (gN S5) (Int32.ofNat p)) 164 (gN S5) (Int32.ofNat v3)) ht9 rfl rfl ⟨(zhas_of (ztyp_new_at (S := S5) (t := 13) (n := 0) (s := zslots 13) (show 1639 ≤ gN S5 from by omega)) rfl), (show gN S5 < gN S5 + 1 from by omega)⟩ ?_
          refine zv_c1 ht9 rfl rfl (zv_c1 ht9 rfl rfl ?_)
          refine zv_ci (S' := sI (sI (sI (sP (sNew S5 13 0 (zslots 13)) 166 (gN S5) (some 0)) 144 (gN S5) (Int32.ofNat p)) 164 (gN S5) (Int32.ofNat v3)) 165 (gN S5) 0) ht9 rfl rfl ⟨⟨(zhas_of (ztyp_new_at (S := S5) (t := 13) (n := 0) (s := zslots 13) (show 1639 ≤ gN S5 from by omega)) rfl), (show gN S5 < gN S5 + 1 from by omega)⟩, (by decide)⟩ ?_
          exact zv_rt ht9 rfl rfl rfl rfl k18
        refine zv_cl ht rfl rfl rfl rfl (by omega) (Nat.le_of_ble_eq_true rfl) (C8 _ ?_)
        show zEv d 249 32 [.ref r, .int (Int32.ofNat p), .int 0, .int (Int32.ofNat v3)] [.ref (gN S5), .ref r] (sI (sI (sI (sP (sNew S5 13 0 (zslots 13)) 166 (gN S5) (some 0)) 144 (gN S5) (Int32.ofNat p)) 164 (gN S5) (Int32.ofNat v3)) 165 (gN S5) 0) post
        have C20 : ∀ (pst19 : Outcome × zS → Prop), (∀ S22 : zS, (zFin true S22) → (pJ (tN 2 v3 [] p []) = .ok (tN 2 v3 [] p [])) → (xJd (sI (sI (sI (sP (sNew S5 13 0 (zslots 13)) 166 (gN S5) (some 0)) 144 (gN S5) (Int32.ofNat p)) 164 (gN S5) (Int32.ofNat v3)) 165 (gN S5) 0) (gN S5) S22) → (xTl (gN S) S22 (tN 2 v3 [] p []) (gN S5)) → (xR tp sz S22 r (at0 + 3) nd) → (gN S22 = gN S5 + 1 ∧ gZ S22 = gZ S5 + 20) → pst19 (.returned (some (.ref (gN S5))), S22)) → (∀ S23 : zS, ∀ q23 : Nat, (zFin true S23) → (pJ (tN 2 v3 [] p []) = .error (3, p)) → (xFn (sI (sI (sI (sP (sNew S5 13 0 (zslots 13)) 166 (gN S5) (some 0)) 144 (gN S5) (Int32.ofNat p)) 164 (gN S5) (Int32.ofNat v3)) 165 (gN S5) 0) (gN S5) S23) → (xFl S23 q23 3 p) → (gN S23 = gN S5 + 1 + 1 ∧ gZ S23 ≤ gZ S5 + 20 + 3) → pst19 (.threw q23, S23)) → zCall (d - 1) 253 [.ref r, .ref (gN S5)] (sI (sI (sI (sP (sNew S5 13 0 (zslots 13)) 166 (gN S5) (some 0)) 144 (gN S5) (Int32.ofNat p)) 164 (gN S5) (Int32.ofNat v3)) 165 (gN S5) 0) pst19 := by
          intro pst19 k24 k25
          have ht21 : ztab 253 = ztb253 := rfl
          show zEv (d - 1) 253 0 [.ref r, .ref (gN S5)] [] (sI (sI (sI (sP (sNew S5 13 0 (zslots 13)) 166 (gN S5) (some 0)) 144 (gN S5) (Int32.ofNat p)) 164 (gN S5) (Int32.ofNat v3)) 165 (gN S5) 0) pst19
          refine zv_c1 ht21 rfl rfl ?_
          refine zv_cl ht21 rfl rfl rfl (zv_tgm (ztyp_new_at (S := S5) (t := 13) (n := 0) (s := zslots 13) (show 1639 ≤ gN S5 from by omega)) rfl) (by omega) (Nat.le_of_ble_eq_true rfl) (x_judgeR (S := sI (sI (sI (sP (sNew S5 13 0 (zslots 13)) 166 (gN S5) (some 0)) 144 (gN S5) (Int32.ofNat p)) 164 (gN S5) (Int32.ofNat v3)) 165 (gN S5) 0) (tp := tp) (sz := sz) (r := r) (a := gN S5) (k := 2) (v := v3) (p := p) (ks := []) (js := []) (cs := []) (g := gN S5 + 1) (lo := gN S) (zFin_sP (zFin_new hF5) rfl) (by omega) (by omega) (by omega) (by omega) (by omega) rfl (xOwn_K (by decide) (ztyp_new_at (S := S5) (t := 13) (n := 0) (s := zslots 13) (show 1639 ≤ gN S5 from by omega)) (gI_sI_at) (gI_sI_at) (gP_sP_at) (by omega)) rfl (by decide) (by omega) (gI_sI_at) (gI_new_at (S := S5) (t := 13) (n := 0) (s := zslots 13)) (gI_new_at (S := S5) (t := 13) (n := 0) (s := zslots 13)) (xR.ke (Fs := []) p5 (zKE.tr (zKE.tr (zKE.tr (zKE.tr (zKE.tr zKE.rf (zKE_new (show gN S5 ≤ gN S5 ∧ gN S5 < zLB from ⟨by omega, by have hLB : zLB = 4294967296 := rfl; omega⟩))) (zKE_sP (Or.inr (Or.inr ⟨by omega, by have hLB : zLB = 4294967296 := rfl; omega⟩)))) (zKE_sI (Or.inr (Or.inr ⟨by omega, by have hLB : zLB = 4294967296 := rfl; omega⟩)))) (zKE_sI (Or.inr (Or.inr ⟨by omega, by have hLB : zLB = 4294967296 := rfl; omega⟩)))) (zKE_sI (Or.inr (Or.inr ⟨by omega, by have hLB : zLB = 4294967296 := rfl; omega⟩)))) (by omega) (by decide)) (by omega) (fun S22 hF22 e22 j22 t22 p22 g22 => ?_) (fun S23 q23 hF23 e23 k23 x23 g23 => ?_))
          · show zEv (d - 1) 253 4 [.ref r, .ref (gN S5)] [] S22 pst19
            refine zv_c1 ht21 rfl rfl ?_
            exact zv_rt ht21 rfl rfl rfl rfl (k24 S22 hF22 e22 j22 t22 p22 g22)
          · exact (k25 S23 q23 hF23 e23 k23 x23 g23)
        refine zv_cl ht rfl rfl rfl (zv_tgv (Eq.trans (ztyp_new (S := S5) (t := 13) (n := 0) (s := zslots 13) (show r ≠ gN S5 from by omega)) p5.1.2.2.2.1) rfl) (by omega) (Nat.le_of_ble_eq_true rfl) (C20 _ (fun S22 hF22 e22 j22 t22 p22 g22 => ?_) (fun S23 q23 hF23 e23 k23 x23 g23 => ?_))
        · show zEv d 249 35 [.ref r, .int (Int32.ofNat p), .int 0, .int (Int32.ofNat v3)] [.ref (gN S5)] S22 post
          exact zv_rt ht rfl rfl rfl rfl (h1 S1 hF1 e1 k1 p1 g1 b1 S3 v3 hF3 e3 k3 p3 g3 b3 c3 S5 hF5 e5 k5 p5 g5 b5 S22 hF22 e22 j22 t22 p22 g22)
        · exact (h2 S1 hF1 e1 k1 p1 g1 b1 S3 v3 hF3 e3 k3 p3 g3 b3 c3 S5 hF5 e5 k5 p5 g5 b5 S23 q23 hF23 e23 k23 x23 g23)
      · exact (h3 S1 hF1 e1 k1 p1 g1 b1 S3 v3 hF3 e3 k3 p3 g3 b3 c3 S6 q6 hF6 e6 k6 x6 g6)
    · exact (h4 S1 hF1 e1 k1 p1 g1 b1 S4 q4 hF4 e4 k4 x4 g4)
  · exact (h5 S2 q2 hF2 e2 k2 x2 g2)

theorem ky3 {d : Nat} {S : zS} (hF : zFin true S) (hd : 4 ≤ d) {tp : Nat → Nat} {sz at0 nd r : Nat} (p : Nat) (hR : xR tp sz S r at0 nd) (hs0 : sz ≤ 300) (ha0 : at0 ≤ sz) (hr1 : 1639 ≤ r) (hr2 : r < gN S) (hN2 : gN S < 1800000) (hp : p ≤ 300) {post : Outcome × zS → Prop} (h1 : ∀ S1 : zS, (zFin true S1) → (pWant tp sz 40 at0 = .ok (at0 + 1)) → (xFr S S1) → (xR tp sz S1 r (at0 + 1) nd) → (gN S ≤ gN S1 ∧ gN S1 ≤ gN S + 0 ∧ gZ S1 ≤ gZ S + 0) → ((at0 + 1) ≤ sz) → ∀ S3 : zS, ∀ v3 : Nat, (zFin true S3) → (pLet tp sz 65 80 (at0 + 1) = .ok (v3, at0 + 2)) → (xFr S1 S3) → (xR tp sz S3 r (at0 + 2) nd) → (gN S1 ≤ gN S3 ∧ gN S3 ≤ gN S1 + 0 ∧ gZ S3 ≤ gZ S1 + 0) → ((at0 + 2) ≤ sz) → (v3 ≤ 15) → ∀ S5 : zS, (zFin true S5) → (pWant tp sz 41 (at0 + 2) = .ok (at0 + 3)) → (xFr S3 S5) → (xR tp sz S5 r (at0 + 3) nd) → (gN S3 ≤ gN S5 ∧ gN S5 ≤ gN S3 + 0 ∧ gZ S5 ≤ gZ S3 + 0) → ((at0 + 3) ≤ sz) → ∀ S22 : zS, (zFin true S22) → (pJ (tN 3 v3 [] p []) = .ok (tN 3 v3 [] p [])) → (xJd (sI (sI (sI (sP (sNew S5 13 0 (zslots 13)) 166 (gN S5) (some 0)) 144 (gN S5) (Int32.ofNat p)) 164 (gN S5) (Int32.ofNat v3)) 165 (gN S5) 1) (gN S5) S22) → (xTl (gN S) S22 (tN 3 v3 [] p []) (gN S5)) → (xR tp sz S22 r (at0 + 3) nd) → (gN S22 = gN S5 + 1 ∧ gZ S22 = gZ S5 + 20) → post (.returned (some (.ref (gN S5))), S22)) (h2 : ∀ S1 : zS, (zFin true S1) → (pWant tp sz 40 at0 = .ok (at0 + 1)) → (xFr S S1) → (xR tp sz S1 r (at0 + 1) nd) → (gN S ≤ gN S1 ∧ gN S1 ≤ gN S + 0 ∧ gZ S1 ≤ gZ S + 0) → ((at0 + 1) ≤ sz) → ∀ S3 : zS, ∀ v3 : Nat, (zFin true S3) → (pLet tp sz 65 80 (at0 + 1) = .ok (v3, at0 + 2)) → (xFr S1 S3) → (xR tp sz S3 r (at0 + 2) nd) → (gN S1 ≤ gN S3 ∧ gN S3 ≤ gN S1 + 0 ∧ gZ S3 ≤ gZ S1 + 0) → ((at0 + 2) ≤ sz) → (v3 ≤ 15) → ∀ S5 : zS, (zFin true S5) → (pWant tp sz 41 (at0 + 2) = .ok (at0 + 3)) → (xFr S3 S5) → (xR tp sz S5 r (at0 + 3) nd) → (gN S3 ≤ gN S5 ∧ gN S5 ≤ gN S3 + 0 ∧ gZ S5 ≤ gZ S3 + 0) → ((at0 + 3) ≤ sz) → ∀ S23 : zS, ∀ q23 : Nat, (zFin true S23) → (pJ (tN 3 v3 [] p []) = .error (3, p)) → (xFn (sI (sI (sI (sP (sNew S5 13 0 (zslots 13)) 166 (gN S5) (some 0)) 144 (gN S5) (Int32.ofNat p)) 164 (gN S5) (Int32.ofNat v3)) 165 (gN S5) 1) (gN S5) S23) → (xFl S23 q23 3 p) → (gN S23 = gN S5 + 1 + 1 ∧ gZ S23 ≤ gZ S5 + 20 + 3) → post (.threw q23, S23)) (h3 : ∀ S1 : zS, (zFin true S1) → (pWant tp sz 40 at0 = .ok (at0 + 1)) → (xFr S S1) → (xR tp sz S1 r (at0 + 1) nd) → (gN S ≤ gN S1 ∧ gN S1 ≤ gN S + 0 ∧ gZ S1 ≤ gZ S + 0) → ((at0 + 1) ≤ sz) → ∀ S3 : zS, ∀ v3 : Nat, (zFin true S3) → (pLet tp sz 65 80 (at0 + 1) = .ok (v3, at0 + 2)) → (xFr S1 S3) → (xR tp sz S3 r (at0 + 2) nd) → (gN S1 ≤ gN S3 ∧ gN S3 ≤ gN S1 + 0 ∧ gZ S3 ≤ gZ S1 + 0) → ((at0 + 2) ≤ sz) → (v3 ≤ 15) → ∀ S6 : zS, ∀ q6 : Nat, (zFin true S6) → (pWant tp sz 41 (at0 + 2) = .error (1, at0 + 2)) → (xFr S3 S6) → (xFl S6 q6 1 (at0 + 2)) → (gN S3 ≤ gN S6 ∧ gN S6 ≤ gN S3 + 1 ∧ gZ S6 ≤ gZ S3 + 3) → post (.threw q6, S6)) (h4 : ∀ S1 : zS, (zFin true S1) → (pWant tp sz 40 at0 = .ok (at0 + 1)) → (xFr S S1) → (xR tp sz S1 r (at0 + 1) nd) → (gN S ≤ gN S1 ∧ gN S1 ≤ gN S + 0 ∧ gZ S1 ≤ gZ S + 0) → ((at0 + 1) ≤ sz) → ∀ S4 : zS, ∀ q4 : Nat, (zFin true S4) → (pLet tp sz 65 80 (at0 + 1) = .error (1, at0 + 1)) → (xFr S1 S4) → (xFl S4 q4 1 (at0 + 1)) → (gN S1 ≤ gN S4 ∧ gN S4 ≤ gN S1 + 1 ∧ gZ S4 ≤ gZ S1 + 3) → post (.threw q4, S4)) (h5 : ∀ S2 : zS, ∀ q2 : Nat, (zFin true S2) → (pWant tp sz 40 at0 = .error (1, at0)) → (xFr S S2) → (xFl S2 q2 1 at0) → (gN S ≤ gN S2 ∧ gN S2 ≤ gN S + 1 ∧ gZ S2 ≤ gZ S + 3) → post (.threw q2, S2)) : zCall d 249 [.ref r, .int (Int32.ofNat p), .int 1] S post := by
  have ht : ztab 249 = ztb249 := rfl
  show zEv d 249 0 [.ref r, .int (Int32.ofNat p), .int 1, .retAddr 0] [] S post
  refine zv_c1 ht rfl rfl (zv_c1 ht rfl rfl ?_)
  refine zv_cl ht rfl rfl rfl (zv_tgv (hR.1.2.2.2.1) rfl) (by omega) (Nat.le_of_ble_eq_true rfl) (x_take (S := S) (tp := tp) (sz := sz) (r := r) (w := 40) hF (by omega) hR (by omega) (by omega) (by omega) (fun S1 hF1 e1 k1 p1 g1 b1 => ?_) (fun S2 q2 hF2 e2 k2 x2 g2 => ?_))
  · show zEv d 249 6 [.ref r, .int (Int32.ofNat p), .int 1, .retAddr 0] [] S1 post
    refine zv_c1 ht rfl rfl ?_
    refine zv_cl ht rfl rfl rfl (zv_tgv (p1.1.2.2.2.1) rfl) (by omega) (Nat.le_of_ble_eq_true rfl) (x_key (S := S1) (tp := tp) (sz := sz) (r := r) hF1 (by omega) p1 (by omega) (fun S3 v3 hF3 e3 k3 p3 g3 b3 c3 => ?_) (fun S4 q4 hF4 e4 k4 x4 g4 => ?_))
    · show zEv d 249 10 [.ref r, .int (Int32.ofNat p), .int 1, .retAddr 0] [.int (Int32.ofNat v3)] S3 post
      refine zv_c2 (L' := [.ref r, .int (Int32.ofNat p), .int 1, .int (Int32.ofNat v3)]) ht rfl rfl ?_
      refine zv_c1 ht rfl rfl (zv_c1 ht rfl rfl ?_)
      refine zv_cl ht rfl rfl rfl (zv_tgv (p3.1.2.2.2.1) rfl) (by omega) (Nat.le_of_ble_eq_true rfl) (x_take (S := S3) (tp := tp) (sz := sz) (r := r) (w := 41) hF3 (by omega) p3 (by omega) (by omega) (by omega) (fun S5 hF5 e5 k5 p5 g5 b5 => ?_) (fun S6 q6 hF6 e6 k6 x6 g6 => ?_))
      · show zEv d 249 17 [.ref r, .int (Int32.ofNat p), .int 1, .int (Int32.ofNat v3)] [] S5 post
        refine zv_c1 ht rfl rfl ?_
        refine zv_ci (st' := [.ref (gN S5), .ref r]) (S' := sNew S5 13 0 (zslots 13)) ht rfl rfl (znew_ok (show 1639 ≤ gN S5 from by omega) (show gN S5 < 2000000 from by omega)) ?_
        refine zv_c1 ht rfl rfl (zv_c1 ht rfl rfl ?_)
        refine zv_g3 (q := 0) ht rfl (zFin_new hF5) rfl rfl (zhas_of (Eq.trans (ztyp_new (S := S5) (t := 13) (n := 0) (s := zslots 13) (show r ≠ gN S5 from by omega)) p5.1.2.2.2.1) rfl) (Eq.trans (gP_new (S := S5) (t := 13) (n := 0) (s := zslots 13) (show r ≠ gN S5 from by omega)) p5.1.2.2.2.2) ?_
        refine zv_c1 ht rfl rfl (zv_c1 ht rfl rfl (zv_c1 ht rfl rfl ?_))
        have C8 : ∀ (pst7 : Outcome × zS → Prop), (pst7 (.returned none, sI (sI (sI (sP (sNew S5 13 0 (zslots 13)) 166 (gN S5) (some 0)) 144 (gN S5) (Int32.ofNat p)) 164 (gN S5) (Int32.ofNat v3)) 165 (gN S5) 1)) → zCall (d - 1) 310 [.ref (gN S5), .ref 0, .int (Int32.ofNat p), .int (Int32.ofNat v3), .int 1] (sNew S5 13 0 (zslots 13)) pst7 := by
          intro pst7 k18
          have ht9 : ztab 310 = ztb310 := rfl
          show zEv (d - 1) 310 0 [.ref (gN S5), .ref 0, .int (Int32.ofNat p), .int (Int32.ofNat v3), .int 1] [] (sNew S5 13 0 (zslots 13)) pst7
          refine zv_c1 ht9 rfl rfl (zv_c1 ht9 rfl rfl ?_)
          refine zv_ci (S' := sP (sNew S5 13 0 (zslots 13)) 166 (gN S5) (some 0)) ht9 rfl rfl ⟨(zhas_of (ztyp_new_at (S := S5) (t := 13) (n := 0) (s := zslots 13) (show 1639 ≤ gN S5 from by omega)) rfl), (show gN S5 < gN S5 + 1 from by omega)⟩ ?_
          refine zv_c1 ht9 rfl rfl (zv_c1 ht9 rfl rfl (zv_c1 ht9 rfl rfl ?_))
          have C11 : ∀ (pst10 : Outcome × zS → Prop), (pst10 (.returned none, sI (sP (sNew S5 13 0 (zslots 13)) 166 (gN S5) (some 0)) 144 (gN S5) (Int32.ofNat p))) → zCall ((d - 1) - 1) 306 [.ref (gN S5), .ref 0, .int (Int32.ofNat p)] (sP (sNew S5 13 0 (zslots 13)) 166 (gN S5) (some 0)) pst10 := by
            intro pst10 k17
            have ht12 : ztab 306 = ztb306 := rfl
            show zEv ((d - 1) - 1) 306 0 [.ref (gN S5), .ref 0, .int (Int32.ofNat p)] [] (sP (sNew S5 13 0 (zslots 13)) 166 (gN S5) (some 0)) pst10
            refine zv_c1 ht12 rfl rfl (zv_c1 ht12 rfl rfl ?_)
            refine zv_ci (S' := sP (sNew S5 13 0 (zslots 13)) 166 (gN S5) (some 0)) ht12 rfl rfl (zk5 (ztyp_new_at (S := S5) (t := 13) (n := 0) (s := zslots 13) (show 1639 ≤ gN S5 from by omega)) rfl (show gN S5 < gN S5 + 1 from by omega) rfl gP_sP_at) ?_
            refine zv_c1 ht12 rfl rfl (zv_c1 ht12 rfl rfl (zv_c1 ht12 rfl rfl ?_))
            have C14 : ∀ (pst13 : Outcome × zS → Prop), (pst13 (.returned none, sI (sP (sNew S5 13 0 (zslots 13)) 166 (gN S5) (some 0)) 144 (gN S5) (Int32.ofNat p))) → zCall (((d - 1) - 1) - 1) 280 [.ref (gN S5), .ref 0, .int (Int32.ofNat p)] (sP (sNew S5 13 0 (zslots 13)) 166 (gN S5) (some 0)) pst13 := by
              intro pst13 k16
              have ht15 : ztab 280 = ztb280 := rfl
              show zEv (((d - 1) - 1) - 1) 280 0 [.ref (gN S5), .ref 0, .int (Int32.ofNat p)] [] (sP (sNew S5 13 0 (zslots 13)) 166 (gN S5) (some 0)) pst13
              refine zv_c1 ht15 rfl rfl (zv_c1 ht15 rfl rfl ?_)
              refine zv_ci (S' := sP (sNew S5 13 0 (zslots 13)) 166 (gN S5) (some 0)) ht15 rfl rfl (zk5 (ztyp_new_at (S := S5) (t := 13) (n := 0) (s := zslots 13) (show 1639 ≤ gN S5 from by omega)) rfl (show gN S5 < gN S5 + 1 from by omega) rfl gP_sP_at) ?_
              refine zv_c1 ht15 rfl rfl (zv_c1 ht15 rfl rfl (zv_c1 ht15 rfl rfl (zv_c1 ht15 rfl rfl ?_)))
              refine zv_ci (S' := sI (sP (sNew S5 13 0 (zslots 13)) 166 (gN S5) (some 0)) 144 (gN S5) (Int32.ofNat p)) ht15 rfl rfl ⟨(zhas_of (ztyp_new_at (S := S5) (t := 13) (n := 0) (s := zslots 13) (show 1639 ≤ gN S5 from by omega)) rfl), (show gN S5 < gN S5 + 1 from by omega)⟩ ?_
              exact zv_rt ht15 rfl rfl rfl rfl k16
            refine zv_cl ht12 rfl rfl rfl rfl (by omega) (Nat.le_of_ble_eq_true rfl) (C14 _ ?_)
            show zEv ((d - 1) - 1) 306 11 [.ref (gN S5), .ref 0, .int (Int32.ofNat p)] [] (sI (sP (sNew S5 13 0 (zslots 13)) 166 (gN S5) (some 0)) 144 (gN S5) (Int32.ofNat p)) pst10
            exact zv_rt ht12 rfl rfl rfl rfl k17
          refine zv_cl ht9 rfl rfl rfl rfl (by omega) (Nat.le_of_ble_eq_true rfl) (C11 _ ?_)
          show zEv (d - 1) 310 11 [.ref (gN S5), .ref 0, .int (Int32.ofNat p), .int (Int32.ofNat v3), .int 1] [] (sI (sP (sNew S5 13 0 (zslots 13)) 166 (gN S5) (some 0)) 144 (gN S5) (Int32.ofNat p)) pst7
          refine zv_c1 ht9 rfl rfl (zv_c1 ht9 rfl rfl ?_)
          refine zv_ci (S' := sI (sI (sP (sNew S5 13 0 (zslots 13)) 166 (gN S5) (some 0)) 144 (gN S5) (Int32.ofNat p)) 164 (gN S5) (Int32.ofNat v3)) ht9 rfl rfl ⟨(zhas_of (ztyp_new_at (S := S5) (t := 13) (n := 0) (s := zslots 13) (show 1639 ≤ gN S5 from by omega)) rfl), (show gN S5 < gN S5 + 1 from by omega)⟩ ?_
          refine zv_c1 ht9 rfl rfl (zv_c1 ht9 rfl rfl ?_)
          refine zv_ci (S' := sI (sI (sI (sP (sNew S5 13 0 (zslots 13)) 166 (gN S5) (some 0)) 144 (gN S5) (Int32.ofNat p)) 164 (gN S5) (Int32.ofNat v3)) 165 (gN S5) 1) ht9 rfl rfl ⟨⟨(zhas_of (ztyp_new_at (S := S5) (t := 13) (n := 0) (s := zslots 13) (show 1639 ≤ gN S5 from by omega)) rfl), (show gN S5 < gN S5 + 1 from by omega)⟩, (by decide)⟩ ?_
          exact zv_rt ht9 rfl rfl rfl rfl k18
        refine zv_cl ht rfl rfl rfl rfl (by omega) (Nat.le_of_ble_eq_true rfl) (C8 _ ?_)
        show zEv d 249 32 [.ref r, .int (Int32.ofNat p), .int 1, .int (Int32.ofNat v3)] [.ref (gN S5), .ref r] (sI (sI (sI (sP (sNew S5 13 0 (zslots 13)) 166 (gN S5) (some 0)) 144 (gN S5) (Int32.ofNat p)) 164 (gN S5) (Int32.ofNat v3)) 165 (gN S5) 1) post
        have C20 : ∀ (pst19 : Outcome × zS → Prop), (∀ S22 : zS, (zFin true S22) → (pJ (tN 3 v3 [] p []) = .ok (tN 3 v3 [] p [])) → (xJd (sI (sI (sI (sP (sNew S5 13 0 (zslots 13)) 166 (gN S5) (some 0)) 144 (gN S5) (Int32.ofNat p)) 164 (gN S5) (Int32.ofNat v3)) 165 (gN S5) 1) (gN S5) S22) → (xTl (gN S) S22 (tN 3 v3 [] p []) (gN S5)) → (xR tp sz S22 r (at0 + 3) nd) → (gN S22 = gN S5 + 1 ∧ gZ S22 = gZ S5 + 20) → pst19 (.returned (some (.ref (gN S5))), S22)) → (∀ S23 : zS, ∀ q23 : Nat, (zFin true S23) → (pJ (tN 3 v3 [] p []) = .error (3, p)) → (xFn (sI (sI (sI (sP (sNew S5 13 0 (zslots 13)) 166 (gN S5) (some 0)) 144 (gN S5) (Int32.ofNat p)) 164 (gN S5) (Int32.ofNat v3)) 165 (gN S5) 1) (gN S5) S23) → (xFl S23 q23 3 p) → (gN S23 = gN S5 + 1 + 1 ∧ gZ S23 ≤ gZ S5 + 20 + 3) → pst19 (.threw q23, S23)) → zCall (d - 1) 253 [.ref r, .ref (gN S5)] (sI (sI (sI (sP (sNew S5 13 0 (zslots 13)) 166 (gN S5) (some 0)) 144 (gN S5) (Int32.ofNat p)) 164 (gN S5) (Int32.ofNat v3)) 165 (gN S5) 1) pst19 := by
          intro pst19 k24 k25
          have ht21 : ztab 253 = ztb253 := rfl
          show zEv (d - 1) 253 0 [.ref r, .ref (gN S5)] [] (sI (sI (sI (sP (sNew S5 13 0 (zslots 13)) 166 (gN S5) (some 0)) 144 (gN S5) (Int32.ofNat p)) 164 (gN S5) (Int32.ofNat v3)) 165 (gN S5) 1) pst19
          refine zv_c1 ht21 rfl rfl ?_
          refine zv_cl ht21 rfl rfl rfl (zv_tgm (ztyp_new_at (S := S5) (t := 13) (n := 0) (s := zslots 13) (show 1639 ≤ gN S5 from by omega)) rfl) (by omega) (Nat.le_of_ble_eq_true rfl) (x_judgeR (S := sI (sI (sI (sP (sNew S5 13 0 (zslots 13)) 166 (gN S5) (some 0)) 144 (gN S5) (Int32.ofNat p)) 164 (gN S5) (Int32.ofNat v3)) 165 (gN S5) 1) (tp := tp) (sz := sz) (r := r) (a := gN S5) (k := 3) (v := v3) (p := p) (ks := []) (js := []) (cs := []) (g := gN S5 + 1) (lo := gN S) (zFin_sP (zFin_new hF5) rfl) (by omega) (by omega) (by omega) (by omega) (by omega) rfl (xOwn_K (by decide) (ztyp_new_at (S := S5) (t := 13) (n := 0) (s := zslots 13) (show 1639 ≤ gN S5 from by omega)) (gI_sI_at) (gI_sI_at) (gP_sP_at) (by omega)) rfl (by decide) (by omega) (gI_sI_at) (gI_new_at (S := S5) (t := 13) (n := 0) (s := zslots 13)) (gI_new_at (S := S5) (t := 13) (n := 0) (s := zslots 13)) (xR.ke (Fs := []) p5 (zKE.tr (zKE.tr (zKE.tr (zKE.tr (zKE.tr zKE.rf (zKE_new (show gN S5 ≤ gN S5 ∧ gN S5 < zLB from ⟨by omega, by have hLB : zLB = 4294967296 := rfl; omega⟩))) (zKE_sP (Or.inr (Or.inr ⟨by omega, by have hLB : zLB = 4294967296 := rfl; omega⟩)))) (zKE_sI (Or.inr (Or.inr ⟨by omega, by have hLB : zLB = 4294967296 := rfl; omega⟩)))) (zKE_sI (Or.inr (Or.inr ⟨by omega, by have hLB : zLB = 4294967296 := rfl; omega⟩)))) (zKE_sI (Or.inr (Or.inr ⟨by omega, by have hLB : zLB = 4294967296 := rfl; omega⟩)))) (by omega) (by decide)) (by omega) (fun S22 hF22 e22 j22 t22 p22 g22 => ?_) (fun S23 q23 hF23 e23 k23 x23 g23 => ?_))
          · show zEv (d - 1) 253 4 [.ref r, .ref (gN S5)] [] S22 pst19
            refine zv_c1 ht21 rfl rfl ?_
            exact zv_rt ht21 rfl rfl rfl rfl (k24 S22 hF22 e22 j22 t22 p22 g22)
          · exact (k25 S23 q23 hF23 e23 k23 x23 g23)
        refine zv_cl ht rfl rfl rfl (zv_tgv (Eq.trans (ztyp_new (S := S5) (t := 13) (n := 0) (s := zslots 13) (show r ≠ gN S5 from by omega)) p5.1.2.2.2.1) rfl) (by omega) (Nat.le_of_ble_eq_true rfl) (C20 _ (fun S22 hF22 e22 j22 t22 p22 g22 => ?_) (fun S23 q23 hF23 e23 k23 x23 g23 => ?_))
        · show zEv d 249 35 [.ref r, .int (Int32.ofNat p), .int 1, .int (Int32.ofNat v3)] [.ref (gN S5)] S22 post
          exact zv_rt ht rfl rfl rfl rfl (h1 S1 hF1 e1 k1 p1 g1 b1 S3 v3 hF3 e3 k3 p3 g3 b3 c3 S5 hF5 e5 k5 p5 g5 b5 S22 hF22 e22 j22 t22 p22 g22)
        · exact (h2 S1 hF1 e1 k1 p1 g1 b1 S3 v3 hF3 e3 k3 p3 g3 b3 c3 S5 hF5 e5 k5 p5 g5 b5 S23 q23 hF23 e23 k23 x23 g23)
      · exact (h3 S1 hF1 e1 k1 p1 g1 b1 S3 v3 hF3 e3 k3 p3 g3 b3 c3 S6 q6 hF6 e6 k6 x6 g6)
    · exact (h4 S1 hF1 e1 k1 p1 g1 b1 S4 q4 hF4 e4 k4 x4 g4)
  · exact (h5 S2 q2 hF2 e2 k2 x2 g2)

theorem lk4 {d : Nat} {S : zS} (hF : zFin true S) (hd : 4 ≤ d) {tp : Nat → Nat} {sz at0 nd r : Nat} (p : Nat) (hR : xR tp sz S r at0 nd) (hs0 : sz ≤ 300) (ha0 : at0 ≤ sz) (hr1 : 1639 ≤ r) (hr2 : r < gN S) (hN2 : gN S < 1800000) (hp : p ≤ 300) {post : Outcome × zS → Prop} (h1 : ∀ S1 : zS, (zFin true S1) → (pWant tp sz 40 at0 = .ok (at0 + 1)) → (xFr S S1) → (xR tp sz S1 r (at0 + 1) nd) → (gN S ≤ gN S1 ∧ gN S1 ≤ gN S + 0 ∧ gZ S1 ≤ gZ S + 0) → ((at0 + 1) ≤ sz) → ∀ S3 : zS, ∀ v3 : Nat, ∀ at3 : Nat, (zFin true S3) → (pNum tp sz (at0 + 1) = .ok (v3, at3)) → (xFr S1 S3) → (xR tp sz S3 r at3 nd) → (gN S1 ≤ gN S3 ∧ gN S3 ≤ gN S1 + 0 ∧ gZ S3 ≤ gZ S1 + 0) → (at3 ≤ sz) → (1 ≤ v3 ∧ v3 < 2147483648) → ((at0 + 1) ≤ at3) → ∀ S5 : zS, (zFin true S5) → (pWant tp sz 41 at3 = .ok (at3 + 1)) → (xFr S3 S5) → (xR tp sz S5 r (at3 + 1) nd) → (gN S3 ≤ gN S5 ∧ gN S5 ≤ gN S3 + 0 ∧ gZ S5 ≤ gZ S3 + 0) → ((at3 + 1) ≤ sz) → ∀ S22 : zS, (zFin true S22) → (pJ (tN 4 v3 [] p []) = .ok (tN 4 v3 [] p [])) → (xJd (sI (sI (sI (sP (sNew S5 14 0 (zslots 14)) 169 (gN S5) (some 0)) 144 (gN S5) (Int32.ofNat p)) 167 (gN S5) (Int32.ofNat v3)) 168 (gN S5) 1) (gN S5) S22) → (xTl (gN S) S22 (tN 4 v3 [] p []) (gN S5)) → (xR tp sz S22 r (at3 + 1) nd) → (gN S22 = gN S5 + 1 ∧ gZ S22 = gZ S5 + 20) → post (.returned (some (.ref (gN S5))), S22)) (h2 : ∀ S1 : zS, (zFin true S1) → (pWant tp sz 40 at0 = .ok (at0 + 1)) → (xFr S S1) → (xR tp sz S1 r (at0 + 1) nd) → (gN S ≤ gN S1 ∧ gN S1 ≤ gN S + 0 ∧ gZ S1 ≤ gZ S + 0) → ((at0 + 1) ≤ sz) → ∀ S3 : zS, ∀ v3 : Nat, ∀ at3 : Nat, (zFin true S3) → (pNum tp sz (at0 + 1) = .ok (v3, at3)) → (xFr S1 S3) → (xR tp sz S3 r at3 nd) → (gN S1 ≤ gN S3 ∧ gN S3 ≤ gN S1 + 0 ∧ gZ S3 ≤ gZ S1 + 0) → (at3 ≤ sz) → (1 ≤ v3 ∧ v3 < 2147483648) → ((at0 + 1) ≤ at3) → ∀ S5 : zS, (zFin true S5) → (pWant tp sz 41 at3 = .ok (at3 + 1)) → (xFr S3 S5) → (xR tp sz S5 r (at3 + 1) nd) → (gN S3 ≤ gN S5 ∧ gN S5 ≤ gN S3 + 0 ∧ gZ S5 ≤ gZ S3 + 0) → ((at3 + 1) ≤ sz) → ∀ S23 : zS, ∀ q23 : Nat, (zFin true S23) → (pJ (tN 4 v3 [] p []) = .error (3, p)) → (xFn (sI (sI (sI (sP (sNew S5 14 0 (zslots 14)) 169 (gN S5) (some 0)) 144 (gN S5) (Int32.ofNat p)) 167 (gN S5) (Int32.ofNat v3)) 168 (gN S5) 1) (gN S5) S23) → (xFl S23 q23 3 p) → (gN S23 = gN S5 + 1 + 1 ∧ gZ S23 ≤ gZ S5 + 20 + 3) → post (.threw q23, S23)) (h3 : ∀ S1 : zS, (zFin true S1) → (pWant tp sz 40 at0 = .ok (at0 + 1)) → (xFr S S1) → (xR tp sz S1 r (at0 + 1) nd) → (gN S ≤ gN S1 ∧ gN S1 ≤ gN S + 0 ∧ gZ S1 ≤ gZ S + 0) → ((at0 + 1) ≤ sz) → ∀ S3 : zS, ∀ v3 : Nat, ∀ at3 : Nat, (zFin true S3) → (pNum tp sz (at0 + 1) = .ok (v3, at3)) → (xFr S1 S3) → (xR tp sz S3 r at3 nd) → (gN S1 ≤ gN S3 ∧ gN S3 ≤ gN S1 + 0 ∧ gZ S3 ≤ gZ S1 + 0) → (at3 ≤ sz) → (1 ≤ v3 ∧ v3 < 2147483648) → ((at0 + 1) ≤ at3) → ∀ S6 : zS, ∀ q6 : Nat, (zFin true S6) → (pWant tp sz 41 at3 = .error (1, at3)) → (xFr S3 S6) → (xFl S6 q6 1 at3) → (gN S3 ≤ gN S6 ∧ gN S6 ≤ gN S3 + 1 ∧ gZ S6 ≤ gZ S3 + 3) → post (.threw q6, S6)) (h4 : ∀ S1 : zS, (zFin true S1) → (pWant tp sz 40 at0 = .ok (at0 + 1)) → (xFr S S1) → (xR tp sz S1 r (at0 + 1) nd) → (gN S ≤ gN S1 ∧ gN S1 ≤ gN S + 0 ∧ gZ S1 ≤ gZ S + 0) → ((at0 + 1) ≤ sz) → ∀ S4 : zS, ∀ q4 : Nat, ∀ z4 : Nat, (zFin true S4) → (pNum tp sz (at0 + 1) = .error (1, z4)) → (xFr S1 S4) → (xFl S4 q4 1 z4) → (gN S1 ≤ gN S4 ∧ gN S4 ≤ gN S1 + 1 ∧ gZ S4 ≤ gZ S1 + 3) → post (.threw q4, S4)) (h5 : ∀ S2 : zS, ∀ q2 : Nat, (zFin true S2) → (pWant tp sz 40 at0 = .error (1, at0)) → (xFr S S2) → (xFl S2 q2 1 at0) → (gN S ≤ gN S2 ∧ gN S2 ≤ gN S + 1 ∧ gZ S2 ≤ gZ S + 3) → post (.threw q2, S2)) : zCall d 254 [.ref r, .int (Int32.ofNat p), .int 1] S post := by
  have ht : ztab 254 = ztb254 := rfl
  show zEv d 254 0 [.ref r, .int (Int32.ofNat p), .int 1, .retAddr 0] [] S post
  refine zv_c1 ht rfl rfl (zv_c1 ht rfl rfl ?_)
  refine zv_cl ht rfl rfl rfl (zv_tgv (hR.1.2.2.2.1) rfl) (by omega) (Nat.le_of_ble_eq_true rfl) (x_take (S := S) (tp := tp) (sz := sz) (r := r) (w := 40) hF (by omega) hR (by omega) (by omega) (by omega) (fun S1 hF1 e1 k1 p1 g1 b1 => ?_) (fun S2 q2 hF2 e2 k2 x2 g2 => ?_))
  · show zEv d 254 6 [.ref r, .int (Int32.ofNat p), .int 1, .retAddr 0] [] S1 post
    refine zv_c1 ht rfl rfl ?_
    refine zv_cl ht rfl rfl rfl (zv_tgv (p1.1.2.2.2.1) rfl) (by omega) (Nat.le_of_ble_eq_true rfl) (x_number (S := S1) (tp := tp) (sz := sz) (r := r) hF1 (by omega) p1 (by omega) (fun S3 v3 at3 hF3 e3 k3 p3 g3 b3 c3 d3 => ?_) (fun S4 q4 z4 hF4 e4 k4 x4 g4 => ?_))
    · show zEv d 254 10 [.ref r, .int (Int32.ofNat p), .int 1, .retAddr 0] [.int (Int32.ofNat v3)] S3 post
      refine zv_c2 (L' := [.ref r, .int (Int32.ofNat p), .int 1, .int (Int32.ofNat v3)]) ht rfl rfl ?_
      refine zv_c1 ht rfl rfl (zv_c1 ht rfl rfl ?_)
      refine zv_cl ht rfl rfl rfl (zv_tgv (p3.1.2.2.2.1) rfl) (by omega) (Nat.le_of_ble_eq_true rfl) (x_take (S := S3) (tp := tp) (sz := sz) (r := r) (w := 41) hF3 (by omega) p3 (by omega) (by omega) (by omega) (fun S5 hF5 e5 k5 p5 g5 b5 => ?_) (fun S6 q6 hF6 e6 k6 x6 g6 => ?_))
      · show zEv d 254 17 [.ref r, .int (Int32.ofNat p), .int 1, .int (Int32.ofNat v3)] [] S5 post
        refine zv_c1 ht rfl rfl ?_
        refine zv_ci (st' := [.ref (gN S5), .ref r]) (S' := sNew S5 14 0 (zslots 14)) ht rfl rfl (znew_ok (show 1639 ≤ gN S5 from by omega) (show gN S5 < 2000000 from by omega)) ?_
        refine zv_c1 ht rfl rfl (zv_c1 ht rfl rfl ?_)
        refine zv_g3 (q := 0) ht rfl (zFin_new hF5) rfl rfl (zhas_of (Eq.trans (ztyp_new (S := S5) (t := 14) (n := 0) (s := zslots 14) (show r ≠ gN S5 from by omega)) p5.1.2.2.2.1) rfl) (Eq.trans (gP_new (S := S5) (t := 14) (n := 0) (s := zslots 14) (show r ≠ gN S5 from by omega)) p5.1.2.2.2.2) ?_
        refine zv_c1 ht rfl rfl (zv_c1 ht rfl rfl (zv_c1 ht rfl rfl ?_))
        have C8 : ∀ (pst7 : Outcome × zS → Prop), (pst7 (.returned none, sI (sI (sI (sP (sNew S5 14 0 (zslots 14)) 169 (gN S5) (some 0)) 144 (gN S5) (Int32.ofNat p)) 167 (gN S5) (Int32.ofNat v3)) 168 (gN S5) 1)) → zCall (d - 1) 320 [.ref (gN S5), .ref 0, .int (Int32.ofNat p), .int (Int32.ofNat v3), .int 1] (sNew S5 14 0 (zslots 14)) pst7 := by
          intro pst7 k18
          have ht9 : ztab 320 = ztb320 := rfl
          show zEv (d - 1) 320 0 [.ref (gN S5), .ref 0, .int (Int32.ofNat p), .int (Int32.ofNat v3), .int 1] [] (sNew S5 14 0 (zslots 14)) pst7
          refine zv_c1 ht9 rfl rfl (zv_c1 ht9 rfl rfl ?_)
          refine zv_ci (S' := sP (sNew S5 14 0 (zslots 14)) 169 (gN S5) (some 0)) ht9 rfl rfl ⟨(zhas_of (ztyp_new_at (S := S5) (t := 14) (n := 0) (s := zslots 14) (show 1639 ≤ gN S5 from by omega)) rfl), (show gN S5 < gN S5 + 1 from by omega)⟩ ?_
          refine zv_c1 ht9 rfl rfl (zv_c1 ht9 rfl rfl (zv_c1 ht9 rfl rfl ?_))
          have C11 : ∀ (pst10 : Outcome × zS → Prop), (pst10 (.returned none, sI (sP (sNew S5 14 0 (zslots 14)) 169 (gN S5) (some 0)) 144 (gN S5) (Int32.ofNat p))) → zCall ((d - 1) - 1) 306 [.ref (gN S5), .ref 0, .int (Int32.ofNat p)] (sP (sNew S5 14 0 (zslots 14)) 169 (gN S5) (some 0)) pst10 := by
            intro pst10 k17
            have ht12 : ztab 306 = ztb306 := rfl
            show zEv ((d - 1) - 1) 306 0 [.ref (gN S5), .ref 0, .int (Int32.ofNat p)] [] (sP (sNew S5 14 0 (zslots 14)) 169 (gN S5) (some 0)) pst10
            refine zv_c1 ht12 rfl rfl (zv_c1 ht12 rfl rfl ?_)
            refine zv_ci (S' := sP (sNew S5 14 0 (zslots 14)) 169 (gN S5) (some 0)) ht12 rfl rfl (zk5 (ztyp_new_at (S := S5) (t := 14) (n := 0) (s := zslots 14) (show 1639 ≤ gN S5 from by omega)) rfl (show gN S5 < gN S5 + 1 from by omega) rfl gP_sP_at) ?_
            refine zv_c1 ht12 rfl rfl (zv_c1 ht12 rfl rfl (zv_c1 ht12 rfl rfl ?_))
            have C14 : ∀ (pst13 : Outcome × zS → Prop), (pst13 (.returned none, sI (sP (sNew S5 14 0 (zslots 14)) 169 (gN S5) (some 0)) 144 (gN S5) (Int32.ofNat p))) → zCall (((d - 1) - 1) - 1) 280 [.ref (gN S5), .ref 0, .int (Int32.ofNat p)] (sP (sNew S5 14 0 (zslots 14)) 169 (gN S5) (some 0)) pst13 := by
              intro pst13 k16
              have ht15 : ztab 280 = ztb280 := rfl
              show zEv (((d - 1) - 1) - 1) 280 0 [.ref (gN S5), .ref 0, .int (Int32.ofNat p)] [] (sP (sNew S5 14 0 (zslots 14)) 169 (gN S5) (some 0)) pst13
              refine zv_c1 ht15 rfl rfl (zv_c1 ht15 rfl rfl ?_)
              refine zv_ci (S' := sP (sNew S5 14 0 (zslots 14)) 169 (gN S5) (some 0)) ht15 rfl rfl (zk5 (ztyp_new_at (S := S5) (t := 14) (n := 0) (s := zslots 14) (show 1639 ≤ gN S5 from by omega)) rfl (show gN S5 < gN S5 + 1 from by omega) rfl gP_sP_at) ?_
              refine zv_c1 ht15 rfl rfl (zv_c1 ht15 rfl rfl (zv_c1 ht15 rfl rfl (zv_c1 ht15 rfl rfl ?_)))
              refine zv_ci (S' := sI (sP (sNew S5 14 0 (zslots 14)) 169 (gN S5) (some 0)) 144 (gN S5) (Int32.ofNat p)) ht15 rfl rfl ⟨(zhas_of (ztyp_new_at (S := S5) (t := 14) (n := 0) (s := zslots 14) (show 1639 ≤ gN S5 from by omega)) rfl), (show gN S5 < gN S5 + 1 from by omega)⟩ ?_
              exact zv_rt ht15 rfl rfl rfl rfl k16
            refine zv_cl ht12 rfl rfl rfl rfl (by omega) (Nat.le_of_ble_eq_true rfl) (C14 _ ?_)
            show zEv ((d - 1) - 1) 306 11 [.ref (gN S5), .ref 0, .int (Int32.ofNat p)] [] (sI (sP (sNew S5 14 0 (zslots 14)) 169 (gN S5) (some 0)) 144 (gN S5) (Int32.ofNat p)) pst10
            exact zv_rt ht12 rfl rfl rfl rfl k17
          refine zv_cl ht9 rfl rfl rfl rfl (by omega) (Nat.le_of_ble_eq_true rfl) (C11 _ ?_)
          show zEv (d - 1) 320 11 [.ref (gN S5), .ref 0, .int (Int32.ofNat p), .int (Int32.ofNat v3), .int 1] [] (sI (sP (sNew S5 14 0 (zslots 14)) 169 (gN S5) (some 0)) 144 (gN S5) (Int32.ofNat p)) pst7
          refine zv_c1 ht9 rfl rfl (zv_c1 ht9 rfl rfl ?_)
          refine zv_ci (S' := sI (sI (sP (sNew S5 14 0 (zslots 14)) 169 (gN S5) (some 0)) 144 (gN S5) (Int32.ofNat p)) 167 (gN S5) (Int32.ofNat v3)) ht9 rfl rfl ⟨(zhas_of (ztyp_new_at (S := S5) (t := 14) (n := 0) (s := zslots 14) (show 1639 ≤ gN S5 from by omega)) rfl), (show gN S5 < gN S5 + 1 from by omega)⟩ ?_
          refine zv_c1 ht9 rfl rfl (zv_c1 ht9 rfl rfl ?_)
          refine zv_ci (S' := sI (sI (sI (sP (sNew S5 14 0 (zslots 14)) 169 (gN S5) (some 0)) 144 (gN S5) (Int32.ofNat p)) 167 (gN S5) (Int32.ofNat v3)) 168 (gN S5) 1) ht9 rfl rfl ⟨⟨(zhas_of (ztyp_new_at (S := S5) (t := 14) (n := 0) (s := zslots 14) (show 1639 ≤ gN S5 from by omega)) rfl), (show gN S5 < gN S5 + 1 from by omega)⟩, (by decide)⟩ ?_
          exact zv_rt ht9 rfl rfl rfl rfl k18
        refine zv_cl ht rfl rfl rfl rfl (by omega) (Nat.le_of_ble_eq_true rfl) (C8 _ ?_)
        show zEv d 254 32 [.ref r, .int (Int32.ofNat p), .int 1, .int (Int32.ofNat v3)] [.ref (gN S5), .ref r] (sI (sI (sI (sP (sNew S5 14 0 (zslots 14)) 169 (gN S5) (some 0)) 144 (gN S5) (Int32.ofNat p)) 167 (gN S5) (Int32.ofNat v3)) 168 (gN S5) 1) post
        have C20 : ∀ (pst19 : Outcome × zS → Prop), (∀ S22 : zS, (zFin true S22) → (pJ (tN 4 v3 [] p []) = .ok (tN 4 v3 [] p [])) → (xJd (sI (sI (sI (sP (sNew S5 14 0 (zslots 14)) 169 (gN S5) (some 0)) 144 (gN S5) (Int32.ofNat p)) 167 (gN S5) (Int32.ofNat v3)) 168 (gN S5) 1) (gN S5) S22) → (xTl (gN S) S22 (tN 4 v3 [] p []) (gN S5)) → (xR tp sz S22 r (at3 + 1) nd) → (gN S22 = gN S5 + 1 ∧ gZ S22 = gZ S5 + 20) → pst19 (.returned (some (.ref (gN S5))), S22)) → (∀ S23 : zS, ∀ q23 : Nat, (zFin true S23) → (pJ (tN 4 v3 [] p []) = .error (3, p)) → (xFn (sI (sI (sI (sP (sNew S5 14 0 (zslots 14)) 169 (gN S5) (some 0)) 144 (gN S5) (Int32.ofNat p)) 167 (gN S5) (Int32.ofNat v3)) 168 (gN S5) 1) (gN S5) S23) → (xFl S23 q23 3 p) → (gN S23 = gN S5 + 1 + 1 ∧ gZ S23 ≤ gZ S5 + 20 + 3) → pst19 (.threw q23, S23)) → zCall (d - 1) 253 [.ref r, .ref (gN S5)] (sI (sI (sI (sP (sNew S5 14 0 (zslots 14)) 169 (gN S5) (some 0)) 144 (gN S5) (Int32.ofNat p)) 167 (gN S5) (Int32.ofNat v3)) 168 (gN S5) 1) pst19 := by
          intro pst19 k24 k25
          have ht21 : ztab 253 = ztb253 := rfl
          show zEv (d - 1) 253 0 [.ref r, .ref (gN S5)] [] (sI (sI (sI (sP (sNew S5 14 0 (zslots 14)) 169 (gN S5) (some 0)) 144 (gN S5) (Int32.ofNat p)) 167 (gN S5) (Int32.ofNat v3)) 168 (gN S5) 1) pst19
          refine zv_c1 ht21 rfl rfl ?_
          refine zv_cl ht21 rfl rfl rfl (zv_tgm (ztyp_new_at (S := S5) (t := 14) (n := 0) (s := zslots 14) (show 1639 ≤ gN S5 from by omega)) rfl) (by omega) (Nat.le_of_ble_eq_true rfl) (x_judgeR (S := sI (sI (sI (sP (sNew S5 14 0 (zslots 14)) 169 (gN S5) (some 0)) 144 (gN S5) (Int32.ofNat p)) 167 (gN S5) (Int32.ofNat v3)) 168 (gN S5) 1) (tp := tp) (sz := sz) (r := r) (a := gN S5) (k := 4) (v := v3) (p := p) (ks := []) (js := []) (cs := []) (g := gN S5 + 1) (lo := gN S) (zFin_sP (zFin_new hF5) rfl) (by omega) (by omega) (by omega) (by omega) (by omega) rfl (xOwn_T (by decide) (ztyp_new_at (S := S5) (t := 14) (n := 0) (s := zslots 14) (show 1639 ≤ gN S5 from by omega)) (gI_sI_at) (gI_sI_at) (gP_sP_at) (by omega)) rfl (by decide) (by omega) (gI_sI_at) (gI_new_at (S := S5) (t := 14) (n := 0) (s := zslots 14)) (gI_new_at (S := S5) (t := 14) (n := 0) (s := zslots 14)) (xR.ke (Fs := []) p5 (zKE.tr (zKE.tr (zKE.tr (zKE.tr (zKE.tr zKE.rf (zKE_new (show gN S5 ≤ gN S5 ∧ gN S5 < zLB from ⟨by omega, by have hLB : zLB = 4294967296 := rfl; omega⟩))) (zKE_sP (Or.inr (Or.inr ⟨by omega, by have hLB : zLB = 4294967296 := rfl; omega⟩)))) (zKE_sI (Or.inr (Or.inr ⟨by omega, by have hLB : zLB = 4294967296 := rfl; omega⟩)))) (zKE_sI (Or.inr (Or.inr ⟨by omega, by have hLB : zLB = 4294967296 := rfl; omega⟩)))) (zKE_sI (Or.inr (Or.inr ⟨by omega, by have hLB : zLB = 4294967296 := rfl; omega⟩)))) (by omega) (by decide)) (by omega) (fun S22 hF22 e22 j22 t22 p22 g22 => ?_) (fun S23 q23 hF23 e23 k23 x23 g23 => ?_))
          · show zEv (d - 1) 253 4 [.ref r, .ref (gN S5)] [] S22 pst19
            refine zv_c1 ht21 rfl rfl ?_
            exact zv_rt ht21 rfl rfl rfl rfl (k24 S22 hF22 e22 j22 t22 p22 g22)
          · exact (k25 S23 q23 hF23 e23 k23 x23 g23)
        refine zv_cl ht rfl rfl rfl (zv_tgv (Eq.trans (ztyp_new (S := S5) (t := 14) (n := 0) (s := zslots 14) (show r ≠ gN S5 from by omega)) p5.1.2.2.2.1) rfl) (by omega) (Nat.le_of_ble_eq_true rfl) (C20 _ (fun S22 hF22 e22 j22 t22 p22 g22 => ?_) (fun S23 q23 hF23 e23 k23 x23 g23 => ?_))
        · show zEv d 254 35 [.ref r, .int (Int32.ofNat p), .int 1, .int (Int32.ofNat v3)] [.ref (gN S5)] S22 post
          exact zv_rt ht rfl rfl rfl rfl (h1 S1 hF1 e1 k1 p1 g1 b1 S3 v3 at3 hF3 e3 k3 p3 g3 b3 c3 d3 S5 hF5 e5 k5 p5 g5 b5 S22 hF22 e22 j22 t22 p22 g22)
        · exact (h2 S1 hF1 e1 k1 p1 g1 b1 S3 v3 at3 hF3 e3 k3 p3 g3 b3 c3 d3 S5 hF5 e5 k5 p5 g5 b5 S23 q23 hF23 e23 k23 x23 g23)
      · exact (h3 S1 hF1 e1 k1 p1 g1 b1 S3 v3 at3 hF3 e3 k3 p3 g3 b3 c3 d3 S6 q6 hF6 e6 k6 x6 g6)
    · exact (h4 S1 hF1 e1 k1 p1 g1 b1 S4 q4 z4 hF4 e4 k4 x4 g4)
  · exact (h5 S2 q2 hF2 e2 k2 x2 g2)

theorem lk5 {d : Nat} {S : zS} (hF : zFin true S) (hd : 4 ≤ d) {tp : Nat → Nat} {sz at0 nd r : Nat} (p : Nat) (hR : xR tp sz S r at0 nd) (hs0 : sz ≤ 300) (ha0 : at0 ≤ sz) (hr1 : 1639 ≤ r) (hr2 : r < gN S) (hN2 : gN S < 1800000) (hp : p ≤ 300) {post : Outcome × zS → Prop} (h1 : ∀ S1 : zS, (zFin true S1) → (pWant tp sz 40 at0 = .ok (at0 + 1)) → (xFr S S1) → (xR tp sz S1 r (at0 + 1) nd) → (gN S ≤ gN S1 ∧ gN S1 ≤ gN S + 0 ∧ gZ S1 ≤ gZ S + 0) → ((at0 + 1) ≤ sz) → ∀ S3 : zS, ∀ v3 : Nat, ∀ at3 : Nat, (zFin true S3) → (pNum tp sz (at0 + 1) = .ok (v3, at3)) → (xFr S1 S3) → (xR tp sz S3 r at3 nd) → (gN S1 ≤ gN S3 ∧ gN S3 ≤ gN S1 + 0 ∧ gZ S3 ≤ gZ S1 + 0) → (at3 ≤ sz) → (1 ≤ v3 ∧ v3 < 2147483648) → ((at0 + 1) ≤ at3) → ∀ S5 : zS, (zFin true S5) → (pWant tp sz 41 at3 = .ok (at3 + 1)) → (xFr S3 S5) → (xR tp sz S5 r (at3 + 1) nd) → (gN S3 ≤ gN S5 ∧ gN S5 ≤ gN S3 + 0 ∧ gZ S5 ≤ gZ S3 + 0) → ((at3 + 1) ≤ sz) → ∀ S22 : zS, (zFin true S22) → (pJ (tN 5 v3 [] p []) = .ok (tN 5 v3 [] p [])) → (xJd (sI (sI (sI (sP (sNew S5 14 0 (zslots 14)) 169 (gN S5) (some 0)) 144 (gN S5) (Int32.ofNat p)) 167 (gN S5) (Int32.ofNat v3)) 168 (gN S5) 0) (gN S5) S22) → (xTl (gN S) S22 (tN 5 v3 [] p []) (gN S5)) → (xR tp sz S22 r (at3 + 1) nd) → (gN S22 = gN S5 + 1 ∧ gZ S22 = gZ S5 + 20) → post (.returned (some (.ref (gN S5))), S22)) (h2 : ∀ S1 : zS, (zFin true S1) → (pWant tp sz 40 at0 = .ok (at0 + 1)) → (xFr S S1) → (xR tp sz S1 r (at0 + 1) nd) → (gN S ≤ gN S1 ∧ gN S1 ≤ gN S + 0 ∧ gZ S1 ≤ gZ S + 0) → ((at0 + 1) ≤ sz) → ∀ S3 : zS, ∀ v3 : Nat, ∀ at3 : Nat, (zFin true S3) → (pNum tp sz (at0 + 1) = .ok (v3, at3)) → (xFr S1 S3) → (xR tp sz S3 r at3 nd) → (gN S1 ≤ gN S3 ∧ gN S3 ≤ gN S1 + 0 ∧ gZ S3 ≤ gZ S1 + 0) → (at3 ≤ sz) → (1 ≤ v3 ∧ v3 < 2147483648) → ((at0 + 1) ≤ at3) → ∀ S5 : zS, (zFin true S5) → (pWant tp sz 41 at3 = .ok (at3 + 1)) → (xFr S3 S5) → (xR tp sz S5 r (at3 + 1) nd) → (gN S3 ≤ gN S5 ∧ gN S5 ≤ gN S3 + 0 ∧ gZ S5 ≤ gZ S3 + 0) → ((at3 + 1) ≤ sz) → ∀ S23 : zS, ∀ q23 : Nat, (zFin true S23) → (pJ (tN 5 v3 [] p []) = .error (3, p)) → (xFn (sI (sI (sI (sP (sNew S5 14 0 (zslots 14)) 169 (gN S5) (some 0)) 144 (gN S5) (Int32.ofNat p)) 167 (gN S5) (Int32.ofNat v3)) 168 (gN S5) 0) (gN S5) S23) → (xFl S23 q23 3 p) → (gN S23 = gN S5 + 1 + 1 ∧ gZ S23 ≤ gZ S5 + 20 + 3) → post (.threw q23, S23)) (h3 : ∀ S1 : zS, (zFin true S1) → (pWant tp sz 40 at0 = .ok (at0 + 1)) → (xFr S S1) → (xR tp sz S1 r (at0 + 1) nd) → (gN S ≤ gN S1 ∧ gN S1 ≤ gN S + 0 ∧ gZ S1 ≤ gZ S + 0) → ((at0 + 1) ≤ sz) → ∀ S3 : zS, ∀ v3 : Nat, ∀ at3 : Nat, (zFin true S3) → (pNum tp sz (at0 + 1) = .ok (v3, at3)) → (xFr S1 S3) → (xR tp sz S3 r at3 nd) → (gN S1 ≤ gN S3 ∧ gN S3 ≤ gN S1 + 0 ∧ gZ S3 ≤ gZ S1 + 0) → (at3 ≤ sz) → (1 ≤ v3 ∧ v3 < 2147483648) → ((at0 + 1) ≤ at3) → ∀ S6 : zS, ∀ q6 : Nat, (zFin true S6) → (pWant tp sz 41 at3 = .error (1, at3)) → (xFr S3 S6) → (xFl S6 q6 1 at3) → (gN S3 ≤ gN S6 ∧ gN S6 ≤ gN S3 + 1 ∧ gZ S6 ≤ gZ S3 + 3) → post (.threw q6, S6)) (h4 : ∀ S1 : zS, (zFin true S1) → (pWant tp sz 40 at0 = .ok (at0 + 1)) → (xFr S S1) → (xR tp sz S1 r (at0 + 1) nd) → (gN S ≤ gN S1 ∧ gN S1 ≤ gN S + 0 ∧ gZ S1 ≤ gZ S + 0) → ((at0 + 1) ≤ sz) → ∀ S4 : zS, ∀ q4 : Nat, ∀ z4 : Nat, (zFin true S4) → (pNum tp sz (at0 + 1) = .error (1, z4)) → (xFr S1 S4) → (xFl S4 q4 1 z4) → (gN S1 ≤ gN S4 ∧ gN S4 ≤ gN S1 + 1 ∧ gZ S4 ≤ gZ S1 + 3) → post (.threw q4, S4)) (h5 : ∀ S2 : zS, ∀ q2 : Nat, (zFin true S2) → (pWant tp sz 40 at0 = .error (1, at0)) → (xFr S S2) → (xFl S2 q2 1 at0) → (gN S ≤ gN S2 ∧ gN S2 ≤ gN S + 1 ∧ gZ S2 ≤ gZ S + 3) → post (.threw q2, S2)) : zCall d 254 [.ref r, .int (Int32.ofNat p), .int 0] S post := by
  have ht : ztab 254 = ztb254 := rfl
  show zEv d 254 0 [.ref r, .int (Int32.ofNat p), .int 0, .retAddr 0] [] S post
  refine zv_c1 ht rfl rfl (zv_c1 ht rfl rfl ?_)
  refine zv_cl ht rfl rfl rfl (zv_tgv (hR.1.2.2.2.1) rfl) (by omega) (Nat.le_of_ble_eq_true rfl) (x_take (S := S) (tp := tp) (sz := sz) (r := r) (w := 40) hF (by omega) hR (by omega) (by omega) (by omega) (fun S1 hF1 e1 k1 p1 g1 b1 => ?_) (fun S2 q2 hF2 e2 k2 x2 g2 => ?_))
  · show zEv d 254 6 [.ref r, .int (Int32.ofNat p), .int 0, .retAddr 0] [] S1 post
    refine zv_c1 ht rfl rfl ?_
    refine zv_cl ht rfl rfl rfl (zv_tgv (p1.1.2.2.2.1) rfl) (by omega) (Nat.le_of_ble_eq_true rfl) (x_number (S := S1) (tp := tp) (sz := sz) (r := r) hF1 (by omega) p1 (by omega) (fun S3 v3 at3 hF3 e3 k3 p3 g3 b3 c3 d3 => ?_) (fun S4 q4 z4 hF4 e4 k4 x4 g4 => ?_))
    · show zEv d 254 10 [.ref r, .int (Int32.ofNat p), .int 0, .retAddr 0] [.int (Int32.ofNat v3)] S3 post
      refine zv_c2 (L' := [.ref r, .int (Int32.ofNat p), .int 0, .int (Int32.ofNat v3)]) ht rfl rfl ?_
      refine zv_c1 ht rfl rfl (zv_c1 ht rfl rfl ?_)
      refine zv_cl ht rfl rfl rfl (zv_tgv (p3.1.2.2.2.1) rfl) (by omega) (Nat.le_of_ble_eq_true rfl) (x_take (S := S3) (tp := tp) (sz := sz) (r := r) (w := 41) hF3 (by omega) p3 (by omega) (by omega) (by omega) (fun S5 hF5 e5 k5 p5 g5 b5 => ?_) (fun S6 q6 hF6 e6 k6 x6 g6 => ?_))
      · show zEv d 254 17 [.ref r, .int (Int32.ofNat p), .int 0, .int (Int32.ofNat v3)] [] S5 post
        refine zv_c1 ht rfl rfl ?_
        refine zv_ci (st' := [.ref (gN S5), .ref r]) (S' := sNew S5 14 0 (zslots 14)) ht rfl rfl (znew_ok (show 1639 ≤ gN S5 from by omega) (show gN S5 < 2000000 from by omega)) ?_
        refine zv_c1 ht rfl rfl (zv_c1 ht rfl rfl ?_)
        refine zv_g3 (q := 0) ht rfl (zFin_new hF5) rfl rfl (zhas_of (Eq.trans (ztyp_new (S := S5) (t := 14) (n := 0) (s := zslots 14) (show r ≠ gN S5 from by omega)) p5.1.2.2.2.1) rfl) (Eq.trans (gP_new (S := S5) (t := 14) (n := 0) (s := zslots 14) (show r ≠ gN S5 from by omega)) p5.1.2.2.2.2) ?_
        refine zv_c1 ht rfl rfl (zv_c1 ht rfl rfl (zv_c1 ht rfl rfl ?_))
        have C8 : ∀ (pst7 : Outcome × zS → Prop), (pst7 (.returned none, sI (sI (sI (sP (sNew S5 14 0 (zslots 14)) 169 (gN S5) (some 0)) 144 (gN S5) (Int32.ofNat p)) 167 (gN S5) (Int32.ofNat v3)) 168 (gN S5) 0)) → zCall (d - 1) 320 [.ref (gN S5), .ref 0, .int (Int32.ofNat p), .int (Int32.ofNat v3), .int 0] (sNew S5 14 0 (zslots 14)) pst7 := by
          intro pst7 k18
          have ht9 : ztab 320 = ztb320 := rfl
          show zEv (d - 1) 320 0 [.ref (gN S5), .ref 0, .int (Int32.ofNat p), .int (Int32.ofNat v3), .int 0] [] (sNew S5 14 0 (zslots 14)) pst7
          refine zv_c1 ht9 rfl rfl (zv_c1 ht9 rfl rfl ?_)
          refine zv_ci (S' := sP (sNew S5 14 0 (zslots 14)) 169 (gN S5) (some 0)) ht9 rfl rfl ⟨(zhas_of (ztyp_new_at (S := S5) (t := 14) (n := 0) (s := zslots 14) (show 1639 ≤ gN S5 from by omega)) rfl), (show gN S5 < gN S5 + 1 from by omega)⟩ ?_
          refine zv_c1 ht9 rfl rfl (zv_c1 ht9 rfl rfl (zv_c1 ht9 rfl rfl ?_))
          have C11 : ∀ (pst10 : Outcome × zS → Prop), (pst10 (.returned none, sI (sP (sNew S5 14 0 (zslots 14)) 169 (gN S5) (some 0)) 144 (gN S5) (Int32.ofNat p))) → zCall ((d - 1) - 1) 306 [.ref (gN S5), .ref 0, .int (Int32.ofNat p)] (sP (sNew S5 14 0 (zslots 14)) 169 (gN S5) (some 0)) pst10 := by
            intro pst10 k17
            have ht12 : ztab 306 = ztb306 := rfl
            show zEv ((d - 1) - 1) 306 0 [.ref (gN S5), .ref 0, .int (Int32.ofNat p)] [] (sP (sNew S5 14 0 (zslots 14)) 169 (gN S5) (some 0)) pst10
            refine zv_c1 ht12 rfl rfl (zv_c1 ht12 rfl rfl ?_)
            refine zv_ci (S' := sP (sNew S5 14 0 (zslots 14)) 169 (gN S5) (some 0)) ht12 rfl rfl (zk5 (ztyp_new_at (S := S5) (t := 14) (n := 0) (s := zslots 14) (show 1639 ≤ gN S5 from by omega)) rfl (show gN S5 < gN S5 + 1 from by omega) rfl gP_sP_at) ?_
            refine zv_c1 ht12 rfl rfl (zv_c1 ht12 rfl rfl (zv_c1 ht12 rfl rfl ?_))
            have C14 : ∀ (pst13 : Outcome × zS → Prop), (pst13 (.returned none, sI (sP (sNew S5 14 0 (zslots 14)) 169 (gN S5) (some 0)) 144 (gN S5) (Int32.ofNat p))) → zCall (((d - 1) - 1) - 1) 280 [.ref (gN S5), .ref 0, .int (Int32.ofNat p)] (sP (sNew S5 14 0 (zslots 14)) 169 (gN S5) (some 0)) pst13 := by
              intro pst13 k16
              have ht15 : ztab 280 = ztb280 := rfl
              show zEv (((d - 1) - 1) - 1) 280 0 [.ref (gN S5), .ref 0, .int (Int32.ofNat p)] [] (sP (sNew S5 14 0 (zslots 14)) 169 (gN S5) (some 0)) pst13
              refine zv_c1 ht15 rfl rfl (zv_c1 ht15 rfl rfl ?_)
              refine zv_ci (S' := sP (sNew S5 14 0 (zslots 14)) 169 (gN S5) (some 0)) ht15 rfl rfl (zk5 (ztyp_new_at (S := S5) (t := 14) (n := 0) (s := zslots 14) (show 1639 ≤ gN S5 from by omega)) rfl (show gN S5 < gN S5 + 1 from by omega) rfl gP_sP_at) ?_
              refine zv_c1 ht15 rfl rfl (zv_c1 ht15 rfl rfl (zv_c1 ht15 rfl rfl (zv_c1 ht15 rfl rfl ?_)))
              refine zv_ci (S' := sI (sP (sNew S5 14 0 (zslots 14)) 169 (gN S5) (some 0)) 144 (gN S5) (Int32.ofNat p)) ht15 rfl rfl ⟨(zhas_of (ztyp_new_at (S := S5) (t := 14) (n := 0) (s := zslots 14) (show 1639 ≤ gN S5 from by omega)) rfl), (show gN S5 < gN S5 + 1 from by omega)⟩ ?_
              exact zv_rt ht15 rfl rfl rfl rfl k16
            refine zv_cl ht12 rfl rfl rfl rfl (by omega) (Nat.le_of_ble_eq_true rfl) (C14 _ ?_)
            show zEv ((d - 1) - 1) 306 11 [.ref (gN S5), .ref 0, .int (Int32.ofNat p)] [] (sI (sP (sNew S5 14 0 (zslots 14)) 169 (gN S5) (some 0)) 144 (gN S5) (Int32.ofNat p)) pst10
            exact zv_rt ht12 rfl rfl rfl rfl k17
          refine zv_cl ht9 rfl rfl rfl rfl (by omega) (Nat.le_of_ble_eq_true rfl) (C11 _ ?_)
          show zEv (d - 1) 320 11 [.ref (gN S5), .ref 0, .int (Int32.ofNat p), .int (Int32.ofNat v3), .int 0] [] (sI (sP (sNew S5 14 0 (zslots 14)) 169 (gN S5) (some 0)) 144 (gN S5) (Int32.ofNat p)) pst7
          refine zv_c1 ht9 rfl rfl (zv_c1 ht9 rfl rfl ?_)
          refine zv_ci (S' := sI (sI (sP (sNew S5 14 0 (zslots 14)) 169 (gN S5) (some 0)) 144 (gN S5) (Int32.ofNat p)) 167 (gN S5) (Int32.ofNat v3)) ht9 rfl rfl ⟨(zhas_of (ztyp_new_at (S := S5) (t := 14) (n := 0) (s := zslots 14) (show 1639 ≤ gN S5 from by omega)) rfl), (show gN S5 < gN S5 + 1 from by omega)⟩ ?_
          refine zv_c1 ht9 rfl rfl (zv_c1 ht9 rfl rfl ?_)
          refine zv_ci (S' := sI (sI (sI (sP (sNew S5 14 0 (zslots 14)) 169 (gN S5) (some 0)) 144 (gN S5) (Int32.ofNat p)) 167 (gN S5) (Int32.ofNat v3)) 168 (gN S5) 0) ht9 rfl rfl ⟨⟨(zhas_of (ztyp_new_at (S := S5) (t := 14) (n := 0) (s := zslots 14) (show 1639 ≤ gN S5 from by omega)) rfl), (show gN S5 < gN S5 + 1 from by omega)⟩, (by decide)⟩ ?_
          exact zv_rt ht9 rfl rfl rfl rfl k18
        refine zv_cl ht rfl rfl rfl rfl (by omega) (Nat.le_of_ble_eq_true rfl) (C8 _ ?_)
        show zEv d 254 32 [.ref r, .int (Int32.ofNat p), .int 0, .int (Int32.ofNat v3)] [.ref (gN S5), .ref r] (sI (sI (sI (sP (sNew S5 14 0 (zslots 14)) 169 (gN S5) (some 0)) 144 (gN S5) (Int32.ofNat p)) 167 (gN S5) (Int32.ofNat v3)) 168 (gN S5) 0) post
        have C20 : ∀ (pst19 : Outcome × zS → Prop), (∀ S22 : zS, (zFin true S22) → (pJ (tN 5 v3 [] p []) = .ok (tN 5 v3 [] p [])) → (xJd (sI (sI (sI (sP (sNew S5 14 0 (zslots 14)) 169 (gN S5) (some 0)) 144 (gN S5) (Int32.ofNat p)) 167 (gN S5) (Int32.ofNat v3)) 168 (gN S5) 0) (gN S5) S22) → (xTl (gN S) S22 (tN 5 v3 [] p []) (gN S5)) → (xR tp sz S22 r (at3 + 1) nd) → (gN S22 = gN S5 + 1 ∧ gZ S22 = gZ S5 + 20) → pst19 (.returned (some (.ref (gN S5))), S22)) → (∀ S23 : zS, ∀ q23 : Nat, (zFin true S23) → (pJ (tN 5 v3 [] p []) = .error (3, p)) → (xFn (sI (sI (sI (sP (sNew S5 14 0 (zslots 14)) 169 (gN S5) (some 0)) 144 (gN S5) (Int32.ofNat p)) 167 (gN S5) (Int32.ofNat v3)) 168 (gN S5) 0) (gN S5) S23) → (xFl S23 q23 3 p) → (gN S23 = gN S5 + 1 + 1 ∧ gZ S23 ≤ gZ S5 + 20 + 3) → pst19 (.threw q23, S23)) → zCall (d - 1) 253 [.ref r, .ref (gN S5)] (sI (sI (sI (sP (sNew S5 14 0 (zslots 14)) 169 (gN S5) (some 0)) 144 (gN S5) (Int32.ofNat p)) 167 (gN S5) (Int32.ofNat v3)) 168 (gN S5) 0) pst19 := by
          intro pst19 k24 k25
          have ht21 : ztab 253 = ztb253 := rfl
          show zEv (d - 1) 253 0 [.ref r, .ref (gN S5)] [] (sI (sI (sI (sP (sNew S5 14 0 (zslots 14)) 169 (gN S5) (some 0)) 144 (gN S5) (Int32.ofNat p)) 167 (gN S5) (Int32.ofNat v3)) 168 (gN S5) 0) pst19
          refine zv_c1 ht21 rfl rfl ?_
          refine zv_cl ht21 rfl rfl rfl (zv_tgm (ztyp_new_at (S := S5) (t := 14) (n := 0) (s := zslots 14) (show 1639 ≤ gN S5 from by omega)) rfl) (by omega) (Nat.le_of_ble_eq_true rfl) (x_judgeR (S := sI (sI (sI (sP (sNew S5 14 0 (zslots 14)) 169 (gN S5) (some 0)) 144 (gN S5) (Int32.ofNat p)) 167 (gN S5) (Int32.ofNat v3)) 168 (gN S5) 0) (tp := tp) (sz := sz) (r := r) (a := gN S5) (k := 5) (v := v3) (p := p) (ks := []) (js := []) (cs := []) (g := gN S5 + 1) (lo := gN S) (zFin_sP (zFin_new hF5) rfl) (by omega) (by omega) (by omega) (by omega) (by omega) rfl (xOwn_T (by decide) (ztyp_new_at (S := S5) (t := 14) (n := 0) (s := zslots 14) (show 1639 ≤ gN S5 from by omega)) (gI_sI_at) (gI_sI_at) (gP_sP_at) (by omega)) rfl (by decide) (by omega) (gI_sI_at) (gI_new_at (S := S5) (t := 14) (n := 0) (s := zslots 14)) (gI_new_at (S := S5) (t := 14) (n := 0) (s := zslots 14)) (xR.ke (Fs := []) p5 (zKE.tr (zKE.tr (zKE.tr (zKE.tr (zKE.tr zKE.rf (zKE_new (show gN S5 ≤ gN S5 ∧ gN S5 < zLB from ⟨by omega, by have hLB : zLB = 4294967296 := rfl; omega⟩))) (zKE_sP (Or.inr (Or.inr ⟨by omega, by have hLB : zLB = 4294967296 := rfl; omega⟩)))) (zKE_sI (Or.inr (Or.inr ⟨by omega, by have hLB : zLB = 4294967296 := rfl; omega⟩)))) (zKE_sI (Or.inr (Or.inr ⟨by omega, by have hLB : zLB = 4294967296 := rfl; omega⟩)))) (zKE_sI (Or.inr (Or.inr ⟨by omega, by have hLB : zLB = 4294967296 := rfl; omega⟩)))) (by omega) (by decide)) (by omega) (fun S22 hF22 e22 j22 t22 p22 g22 => ?_) (fun S23 q23 hF23 e23 k23 x23 g23 => ?_))
          · show zEv (d - 1) 253 4 [.ref r, .ref (gN S5)] [] S22 pst19
            refine zv_c1 ht21 rfl rfl ?_
            exact zv_rt ht21 rfl rfl rfl rfl (k24 S22 hF22 e22 j22 t22 p22 g22)
          · exact (k25 S23 q23 hF23 e23 k23 x23 g23)
        refine zv_cl ht rfl rfl rfl (zv_tgv (Eq.trans (ztyp_new (S := S5) (t := 14) (n := 0) (s := zslots 14) (show r ≠ gN S5 from by omega)) p5.1.2.2.2.1) rfl) (by omega) (Nat.le_of_ble_eq_true rfl) (C20 _ (fun S22 hF22 e22 j22 t22 p22 g22 => ?_) (fun S23 q23 hF23 e23 k23 x23 g23 => ?_))
        · show zEv d 254 35 [.ref r, .int (Int32.ofNat p), .int 0, .int (Int32.ofNat v3)] [.ref (gN S5)] S22 post
          exact zv_rt ht rfl rfl rfl rfl (h1 S1 hF1 e1 k1 p1 g1 b1 S3 v3 at3 hF3 e3 k3 p3 g3 b3 c3 d3 S5 hF5 e5 k5 p5 g5 b5 S22 hF22 e22 j22 t22 p22 g22)
        · exact (h2 S1 hF1 e1 k1 p1 g1 b1 S3 v3 at3 hF3 e3 k3 p3 g3 b3 c3 d3 S5 hF5 e5 k5 p5 g5 b5 S23 q23 hF23 e23 k23 x23 g23)
      · exact (h3 S1 hF1 e1 k1 p1 g1 b1 S3 v3 at3 hF3 e3 k3 p3 g3 b3 c3 d3 S6 q6 hF6 e6 k6 x6 g6)
    · exact (h4 S1 hF1 e1 k1 p1 g1 b1 S4 q4 z4 hF4 e4 k4 x4 g4)
  · exact (h5 S2 q2 hF2 e2 k2 x2 g2)

theorem im6 {d : Nat} {S : zS} (hF : zFin true S) (hd : 4 ≤ d) {tp : Nat → Nat} {sz at0 nd r : Nat} (p : Nat) (hR : xR tp sz S r at0 nd) (hs0 : sz ≤ 300) (ha0 : at0 ≤ sz) (hr1 : 1639 ≤ r) (hr2 : r < gN S) (hN2 : gN S < 1800000) (hp : p ≤ 300) {post : Outcome × zS → Prop} (h1 : ∀ S1 : zS, (zFin true S1) → (pWant tp sz 40 at0 = .ok (at0 + 1)) → (xFr S S1) → (xR tp sz S1 r (at0 + 1) nd) → (gN S ≤ gN S1 ∧ gN S1 ≤ gN S + 0 ∧ gZ S1 ≤ gZ S + 0) → ((at0 + 1) ≤ sz) → ∀ S3 : zS, ∀ v3 : Nat, (zFin true S3) → (pLet tp sz 48 55 (at0 + 1) = .ok (v3, at0 + 2)) → (xFr S1 S3) → (xR tp sz S3 r (at0 + 2) nd) → (gN S1 ≤ gN S3 ∧ gN S3 ≤ gN S1 + 0 ∧ gZ S3 ≤ gZ S1 + 0) → ((at0 + 2) ≤ sz) → (v3 ≤ 7) → ∀ S5 : zS, (zFin true S5) → (pWant tp sz 41 (at0 + 2) = .ok (at0 + 3)) → (xFr S3 S5) → (xR tp sz S5 r (at0 + 3) nd) → (gN S3 ≤ gN S5 ∧ gN S5 ≤ gN S3 + 0 ∧ gZ S5 ≤ gZ S3 + 0) → ((at0 + 3) ≤ sz) → ∀ S22 : zS, (zFin true S22) → (pJ (tN 6 v3 [] p []) = .ok (tN 6 v3 [] p [])) → (xJd (sI (sI (sI (sP (sNew S5 15 0 (zslots 15)) 172 (gN S5) (some 0)) 144 (gN S5) (Int32.ofNat p)) 170 (gN S5) 0) 171 (gN S5) (Int32.ofNat v3)) (gN S5) S22) → (xTl (gN S) S22 (tN 6 v3 [] p []) (gN S5)) → (xR tp sz S22 r (at0 + 3) nd) → (gN S22 = gN S5 + 1 ∧ gZ S22 = gZ S5 + 20) → post (.returned (some (.ref (gN S5))), S22)) (h2 : ∀ S1 : zS, (zFin true S1) → (pWant tp sz 40 at0 = .ok (at0 + 1)) → (xFr S S1) → (xR tp sz S1 r (at0 + 1) nd) → (gN S ≤ gN S1 ∧ gN S1 ≤ gN S + 0 ∧ gZ S1 ≤ gZ S + 0) → ((at0 + 1) ≤ sz) → ∀ S3 : zS, ∀ v3 : Nat, (zFin true S3) → (pLet tp sz 48 55 (at0 + 1) = .ok (v3, at0 + 2)) → (xFr S1 S3) → (xR tp sz S3 r (at0 + 2) nd) → (gN S1 ≤ gN S3 ∧ gN S3 ≤ gN S1 + 0 ∧ gZ S3 ≤ gZ S1 + 0) → ((at0 + 2) ≤ sz) → (v3 ≤ 7) → ∀ S5 : zS, (zFin true S5) → (pWant tp sz 41 (at0 + 2) = .ok (at0 + 3)) → (xFr S3 S5) → (xR tp sz S5 r (at0 + 3) nd) → (gN S3 ≤ gN S5 ∧ gN S5 ≤ gN S3 + 0 ∧ gZ S5 ≤ gZ S3 + 0) → ((at0 + 3) ≤ sz) → ∀ S23 : zS, ∀ q23 : Nat, (zFin true S23) → (pJ (tN 6 v3 [] p []) = .error (3, p)) → (xFn (sI (sI (sI (sP (sNew S5 15 0 (zslots 15)) 172 (gN S5) (some 0)) 144 (gN S5) (Int32.ofNat p)) 170 (gN S5) 0) 171 (gN S5) (Int32.ofNat v3)) (gN S5) S23) → (xFl S23 q23 3 p) → (gN S23 = gN S5 + 1 + 1 ∧ gZ S23 ≤ gZ S5 + 20 + 3) → post (.threw q23, S23)) (h3 : ∀ S1 : zS, (zFin true S1) → (pWant tp sz 40 at0 = .ok (at0 + 1)) → (xFr S S1) → (xR tp sz S1 r (at0 + 1) nd) → (gN S ≤ gN S1 ∧ gN S1 ≤ gN S + 0 ∧ gZ S1 ≤ gZ S + 0) → ((at0 + 1) ≤ sz) → ∀ S3 : zS, ∀ v3 : Nat, (zFin true S3) → (pLet tp sz 48 55 (at0 + 1) = .ok (v3, at0 + 2)) → (xFr S1 S3) → (xR tp sz S3 r (at0 + 2) nd) → (gN S1 ≤ gN S3 ∧ gN S3 ≤ gN S1 + 0 ∧ gZ S3 ≤ gZ S1 + 0) → ((at0 + 2) ≤ sz) → (v3 ≤ 7) → ∀ S6 : zS, ∀ q6 : Nat, (zFin true S6) → (pWant tp sz 41 (at0 + 2) = .error (1, at0 + 2)) → (xFr S3 S6) → (xFl S6 q6 1 (at0 + 2)) → (gN S3 ≤ gN S6 ∧ gN S6 ≤ gN S3 + 1 ∧ gZ S6 ≤ gZ S3 + 3) → post (.threw q6, S6)) (h4 : ∀ S1 : zS, (zFin true S1) → (pWant tp sz 40 at0 = .ok (at0 + 1)) → (xFr S S1) → (xR tp sz S1 r (at0 + 1) nd) → (gN S ≤ gN S1 ∧ gN S1 ≤ gN S + 0 ∧ gZ S1 ≤ gZ S + 0) → ((at0 + 1) ≤ sz) → ∀ S4 : zS, ∀ q4 : Nat, (zFin true S4) → (pLet tp sz 48 55 (at0 + 1) = .error (1, at0 + 1)) → (xFr S1 S4) → (xFl S4 q4 1 (at0 + 1)) → (gN S1 ≤ gN S4 ∧ gN S4 ≤ gN S1 + 1 ∧ gZ S4 ≤ gZ S1 + 3) → post (.threw q4, S4)) (h5 : ∀ S2 : zS, ∀ q2 : Nat, (zFin true S2) → (pWant tp sz 40 at0 = .error (1, at0)) → (xFr S S2) → (xFl S2 q2 1 at0) → (gN S ≤ gN S2 ∧ gN S2 ≤ gN S + 1 ∧ gZ S2 ≤ gZ S + 3) → post (.threw q2, S2)) : zCall d 257 [.ref r, .int (Int32.ofNat p), .int 0] S post := by
  have ht : ztab 257 = ztb257 := rfl
  show zEv d 257 0 [.ref r, .int (Int32.ofNat p), .int 0, .retAddr 0] [] S post
  refine zv_c1 ht rfl rfl (zv_c1 ht rfl rfl ?_)
  refine zv_cl ht rfl rfl rfl (zv_tgv (hR.1.2.2.2.1) rfl) (by omega) (Nat.le_of_ble_eq_true rfl) (x_take (S := S) (tp := tp) (sz := sz) (r := r) (w := 40) hF (by omega) hR (by omega) (by omega) (by omega) (fun S1 hF1 e1 k1 p1 g1 b1 => ?_) (fun S2 q2 hF2 e2 k2 x2 g2 => ?_))
  · show zEv d 257 6 [.ref r, .int (Int32.ofNat p), .int 0, .retAddr 0] [] S1 post
    refine zv_c1 ht rfl rfl ?_
    refine zv_cl ht rfl rfl rfl (zv_tgv (p1.1.2.2.2.1) rfl) (by omega) (Nat.le_of_ble_eq_true rfl) (x_secret (S := S1) (tp := tp) (sz := sz) (r := r) hF1 (by omega) p1 (by omega) (fun S3 v3 hF3 e3 k3 p3 g3 b3 c3 => ?_) (fun S4 q4 hF4 e4 k4 x4 g4 => ?_))
    · show zEv d 257 10 [.ref r, .int (Int32.ofNat p), .int 0, .retAddr 0] [.int (Int32.ofNat v3)] S3 post
      refine zv_c2 (L' := [.ref r, .int (Int32.ofNat p), .int 0, .int (Int32.ofNat v3)]) ht rfl rfl ?_
      refine zv_c1 ht rfl rfl (zv_c1 ht rfl rfl ?_)
      refine zv_cl ht rfl rfl rfl (zv_tgv (p3.1.2.2.2.1) rfl) (by omega) (Nat.le_of_ble_eq_true rfl) (x_take (S := S3) (tp := tp) (sz := sz) (r := r) (w := 41) hF3 (by omega) p3 (by omega) (by omega) (by omega) (fun S5 hF5 e5 k5 p5 g5 b5 => ?_) (fun S6 q6 hF6 e6 k6 x6 g6 => ?_))
      · show zEv d 257 17 [.ref r, .int (Int32.ofNat p), .int 0, .int (Int32.ofNat v3)] [] S5 post
        refine zv_c1 ht rfl rfl ?_
        refine zv_ci (st' := [.ref (gN S5), .ref r]) (S' := sNew S5 15 0 (zslots 15)) ht rfl rfl (znew_ok (show 1639 ≤ gN S5 from by omega) (show gN S5 < 2000000 from by omega)) ?_
        refine zv_c1 ht rfl rfl (zv_c1 ht rfl rfl ?_)
        refine zv_g3 (q := 0) ht rfl (zFin_new hF5) rfl rfl (zhas_of (Eq.trans (ztyp_new (S := S5) (t := 15) (n := 0) (s := zslots 15) (show r ≠ gN S5 from by omega)) p5.1.2.2.2.1) rfl) (Eq.trans (gP_new (S := S5) (t := 15) (n := 0) (s := zslots 15) (show r ≠ gN S5 from by omega)) p5.1.2.2.2.2) ?_
        refine zv_c1 ht rfl rfl (zv_c1 ht rfl rfl (zv_c1 ht rfl rfl ?_))
        have C8 : ∀ (pst7 : Outcome × zS → Prop), (pst7 (.returned none, sI (sI (sI (sP (sNew S5 15 0 (zslots 15)) 172 (gN S5) (some 0)) 144 (gN S5) (Int32.ofNat p)) 170 (gN S5) 0) 171 (gN S5) (Int32.ofNat v3))) → zCall (d - 1) 327 [.ref (gN S5), .ref 0, .int (Int32.ofNat p), .int 0, .int (Int32.ofNat v3)] (sNew S5 15 0 (zslots 15)) pst7 := by
          intro pst7 k18
          have ht9 : ztab 327 = ztb327 := rfl
          show zEv (d - 1) 327 0 [.ref (gN S5), .ref 0, .int (Int32.ofNat p), .int 0, .int (Int32.ofNat v3)] [] (sNew S5 15 0 (zslots 15)) pst7
          refine zv_c1 ht9 rfl rfl (zv_c1 ht9 rfl rfl ?_)
          refine zv_ci (S' := sP (sNew S5 15 0 (zslots 15)) 172 (gN S5) (some 0)) ht9 rfl rfl ⟨(zhas_of (ztyp_new_at (S := S5) (t := 15) (n := 0) (s := zslots 15) (show 1639 ≤ gN S5 from by omega)) rfl), (show gN S5 < gN S5 + 1 from by omega)⟩ ?_
          refine zv_c1 ht9 rfl rfl (zv_c1 ht9 rfl rfl (zv_c1 ht9 rfl rfl ?_))
          have C11 : ∀ (pst10 : Outcome × zS → Prop), (pst10 (.returned none, sI (sP (sNew S5 15 0 (zslots 15)) 172 (gN S5) (some 0)) 144 (gN S5) (Int32.ofNat p))) → zCall ((d - 1) - 1) 306 [.ref (gN S5), .ref 0, .int (Int32.ofNat p)] (sP (sNew S5 15 0 (zslots 15)) 172 (gN S5) (some 0)) pst10 := by
            intro pst10 k17
            have ht12 : ztab 306 = ztb306 := rfl
            show zEv ((d - 1) - 1) 306 0 [.ref (gN S5), .ref 0, .int (Int32.ofNat p)] [] (sP (sNew S5 15 0 (zslots 15)) 172 (gN S5) (some 0)) pst10
            refine zv_c1 ht12 rfl rfl (zv_c1 ht12 rfl rfl ?_)
            refine zv_ci (S' := sP (sNew S5 15 0 (zslots 15)) 172 (gN S5) (some 0)) ht12 rfl rfl (zk5 (ztyp_new_at (S := S5) (t := 15) (n := 0) (s := zslots 15) (show 1639 ≤ gN S5 from by omega)) rfl (show gN S5 < gN S5 + 1 from by omega) rfl gP_sP_at) ?_
            refine zv_c1 ht12 rfl rfl (zv_c1 ht12 rfl rfl (zv_c1 ht12 rfl rfl ?_))
            have C14 : ∀ (pst13 : Outcome × zS → Prop), (pst13 (.returned none, sI (sP (sNew S5 15 0 (zslots 15)) 172 (gN S5) (some 0)) 144 (gN S5) (Int32.ofNat p))) → zCall (((d - 1) - 1) - 1) 280 [.ref (gN S5), .ref 0, .int (Int32.ofNat p)] (sP (sNew S5 15 0 (zslots 15)) 172 (gN S5) (some 0)) pst13 := by
              intro pst13 k16
              have ht15 : ztab 280 = ztb280 := rfl
              show zEv (((d - 1) - 1) - 1) 280 0 [.ref (gN S5), .ref 0, .int (Int32.ofNat p)] [] (sP (sNew S5 15 0 (zslots 15)) 172 (gN S5) (some 0)) pst13
              refine zv_c1 ht15 rfl rfl (zv_c1 ht15 rfl rfl ?_)
              refine zv_ci (S' := sP (sNew S5 15 0 (zslots 15)) 172 (gN S5) (some 0)) ht15 rfl rfl (zk5 (ztyp_new_at (S := S5) (t := 15) (n := 0) (s := zslots 15) (show 1639 ≤ gN S5 from by omega)) rfl (show gN S5 < gN S5 + 1 from by omega) rfl gP_sP_at) ?_
              refine zv_c1 ht15 rfl rfl (zv_c1 ht15 rfl rfl (zv_c1 ht15 rfl rfl (zv_c1 ht15 rfl rfl ?_)))
              refine zv_ci (S' := sI (sP (sNew S5 15 0 (zslots 15)) 172 (gN S5) (some 0)) 144 (gN S5) (Int32.ofNat p)) ht15 rfl rfl ⟨(zhas_of (ztyp_new_at (S := S5) (t := 15) (n := 0) (s := zslots 15) (show 1639 ≤ gN S5 from by omega)) rfl), (show gN S5 < gN S5 + 1 from by omega)⟩ ?_
              exact zv_rt ht15 rfl rfl rfl rfl k16
            refine zv_cl ht12 rfl rfl rfl rfl (by omega) (Nat.le_of_ble_eq_true rfl) (C14 _ ?_)
            show zEv ((d - 1) - 1) 306 11 [.ref (gN S5), .ref 0, .int (Int32.ofNat p)] [] (sI (sP (sNew S5 15 0 (zslots 15)) 172 (gN S5) (some 0)) 144 (gN S5) (Int32.ofNat p)) pst10
            exact zv_rt ht12 rfl rfl rfl rfl k17
          refine zv_cl ht9 rfl rfl rfl rfl (by omega) (Nat.le_of_ble_eq_true rfl) (C11 _ ?_)
          show zEv (d - 1) 327 11 [.ref (gN S5), .ref 0, .int (Int32.ofNat p), .int 0, .int (Int32.ofNat v3)] [] (sI (sP (sNew S5 15 0 (zslots 15)) 172 (gN S5) (some 0)) 144 (gN S5) (Int32.ofNat p)) pst7
          refine zv_c1 ht9 rfl rfl (zv_c1 ht9 rfl rfl ?_)
          refine zv_ci (S' := sI (sI (sP (sNew S5 15 0 (zslots 15)) 172 (gN S5) (some 0)) 144 (gN S5) (Int32.ofNat p)) 170 (gN S5) 0) ht9 rfl rfl ⟨(zhas_of (ztyp_new_at (S := S5) (t := 15) (n := 0) (s := zslots 15) (show 1639 ≤ gN S5 from by omega)) rfl), (show gN S5 < gN S5 + 1 from by omega)⟩ ?_
          refine zv_c1 ht9 rfl rfl (zv_c1 ht9 rfl rfl ?_)
          refine zv_ci (S' := sI (sI (sI (sP (sNew S5 15 0 (zslots 15)) 172 (gN S5) (some 0)) 144 (gN S5) (Int32.ofNat p)) 170 (gN S5) 0) 171 (gN S5) (Int32.ofNat v3)) ht9 rfl rfl ⟨(zhas_of (ztyp_new_at (S := S5) (t := 15) (n := 0) (s := zslots 15) (show 1639 ≤ gN S5 from by omega)) rfl), (show gN S5 < gN S5 + 1 from by omega)⟩ ?_
          exact zv_rt ht9 rfl rfl rfl rfl k18
        refine zv_cl ht rfl rfl rfl rfl (by omega) (Nat.le_of_ble_eq_true rfl) (C8 _ ?_)
        show zEv d 257 32 [.ref r, .int (Int32.ofNat p), .int 0, .int (Int32.ofNat v3)] [.ref (gN S5), .ref r] (sI (sI (sI (sP (sNew S5 15 0 (zslots 15)) 172 (gN S5) (some 0)) 144 (gN S5) (Int32.ofNat p)) 170 (gN S5) 0) 171 (gN S5) (Int32.ofNat v3)) post
        have C20 : ∀ (pst19 : Outcome × zS → Prop), (∀ S22 : zS, (zFin true S22) → (pJ (tN 6 v3 [] p []) = .ok (tN 6 v3 [] p [])) → (xJd (sI (sI (sI (sP (sNew S5 15 0 (zslots 15)) 172 (gN S5) (some 0)) 144 (gN S5) (Int32.ofNat p)) 170 (gN S5) 0) 171 (gN S5) (Int32.ofNat v3)) (gN S5) S22) → (xTl (gN S) S22 (tN 6 v3 [] p []) (gN S5)) → (xR tp sz S22 r (at0 + 3) nd) → (gN S22 = gN S5 + 1 ∧ gZ S22 = gZ S5 + 20) → pst19 (.returned (some (.ref (gN S5))), S22)) → (∀ S23 : zS, ∀ q23 : Nat, (zFin true S23) → (pJ (tN 6 v3 [] p []) = .error (3, p)) → (xFn (sI (sI (sI (sP (sNew S5 15 0 (zslots 15)) 172 (gN S5) (some 0)) 144 (gN S5) (Int32.ofNat p)) 170 (gN S5) 0) 171 (gN S5) (Int32.ofNat v3)) (gN S5) S23) → (xFl S23 q23 3 p) → (gN S23 = gN S5 + 1 + 1 ∧ gZ S23 ≤ gZ S5 + 20 + 3) → pst19 (.threw q23, S23)) → zCall (d - 1) 253 [.ref r, .ref (gN S5)] (sI (sI (sI (sP (sNew S5 15 0 (zslots 15)) 172 (gN S5) (some 0)) 144 (gN S5) (Int32.ofNat p)) 170 (gN S5) 0) 171 (gN S5) (Int32.ofNat v3)) pst19 := by
          intro pst19 k24 k25
          have ht21 : ztab 253 = ztb253 := rfl
          show zEv (d - 1) 253 0 [.ref r, .ref (gN S5)] [] (sI (sI (sI (sP (sNew S5 15 0 (zslots 15)) 172 (gN S5) (some 0)) 144 (gN S5) (Int32.ofNat p)) 170 (gN S5) 0) 171 (gN S5) (Int32.ofNat v3)) pst19
          refine zv_c1 ht21 rfl rfl ?_
          refine zv_cl ht21 rfl rfl rfl (zv_tgm (ztyp_new_at (S := S5) (t := 15) (n := 0) (s := zslots 15) (show 1639 ≤ gN S5 from by omega)) rfl) (by omega) (Nat.le_of_ble_eq_true rfl) (x_judgeR (S := sI (sI (sI (sP (sNew S5 15 0 (zslots 15)) 172 (gN S5) (some 0)) 144 (gN S5) (Int32.ofNat p)) 170 (gN S5) 0) 171 (gN S5) (Int32.ofNat v3)) (tp := tp) (sz := sz) (r := r) (a := gN S5) (k := 6) (v := v3) (p := p) (ks := []) (js := []) (cs := []) (g := gN S5 + 1) (lo := gN S) (zFin_sP (zFin_new hF5) rfl) (by omega) (by omega) (by omega) (by omega) (by omega) rfl (xOwn_I (by decide) (ztyp_new_at (S := S5) (t := 15) (n := 0) (s := zslots 15) (show 1639 ≤ gN S5 from by omega)) (gI_sI_at) (gI_sI_at) (gP_sP_at) (by omega)) rfl (by decide) (by omega) (gI_sI_at) (gI_new_at (S := S5) (t := 15) (n := 0) (s := zslots 15)) (gI_new_at (S := S5) (t := 15) (n := 0) (s := zslots 15)) (xR.ke (Fs := []) p5 (zKE.tr (zKE.tr (zKE.tr (zKE.tr (zKE.tr zKE.rf (zKE_new (show gN S5 ≤ gN S5 ∧ gN S5 < zLB from ⟨by omega, by have hLB : zLB = 4294967296 := rfl; omega⟩))) (zKE_sP (Or.inr (Or.inr ⟨by omega, by have hLB : zLB = 4294967296 := rfl; omega⟩)))) (zKE_sI (Or.inr (Or.inr ⟨by omega, by have hLB : zLB = 4294967296 := rfl; omega⟩)))) (zKE_sI (Or.inr (Or.inr ⟨by omega, by have hLB : zLB = 4294967296 := rfl; omega⟩)))) (zKE_sI (Or.inr (Or.inr ⟨by omega, by have hLB : zLB = 4294967296 := rfl; omega⟩)))) (by omega) (by decide)) (by omega) (fun S22 hF22 e22 j22 t22 p22 g22 => ?_) (fun S23 q23 hF23 e23 k23 x23 g23 => ?_))
          · show zEv (d - 1) 253 4 [.ref r, .ref (gN S5)] [] S22 pst19
            refine zv_c1 ht21 rfl rfl ?_
            exact zv_rt ht21 rfl rfl rfl rfl (k24 S22 hF22 e22 j22 t22 p22 g22)
          · exact (k25 S23 q23 hF23 e23 k23 x23 g23)
        refine zv_cl ht rfl rfl rfl (zv_tgv (Eq.trans (ztyp_new (S := S5) (t := 15) (n := 0) (s := zslots 15) (show r ≠ gN S5 from by omega)) p5.1.2.2.2.1) rfl) (by omega) (Nat.le_of_ble_eq_true rfl) (C20 _ (fun S22 hF22 e22 j22 t22 p22 g22 => ?_) (fun S23 q23 hF23 e23 k23 x23 g23 => ?_))
        · show zEv d 257 35 [.ref r, .int (Int32.ofNat p), .int 0, .int (Int32.ofNat v3)] [.ref (gN S5)] S22 post
          exact zv_rt ht rfl rfl rfl rfl (h1 S1 hF1 e1 k1 p1 g1 b1 S3 v3 hF3 e3 k3 p3 g3 b3 c3 S5 hF5 e5 k5 p5 g5 b5 S22 hF22 e22 j22 t22 p22 g22)
        · exact (h2 S1 hF1 e1 k1 p1 g1 b1 S3 v3 hF3 e3 k3 p3 g3 b3 c3 S5 hF5 e5 k5 p5 g5 b5 S23 q23 hF23 e23 k23 x23 g23)
      · exact (h3 S1 hF1 e1 k1 p1 g1 b1 S3 v3 hF3 e3 k3 p3 g3 b3 c3 S6 q6 hF6 e6 k6 x6 g6)
    · exact (h4 S1 hF1 e1 k1 p1 g1 b1 S4 q4 hF4 e4 k4 x4 g4)
  · exact (h5 S2 q2 hF2 e2 k2 x2 g2)

theorem im7 {d : Nat} {S : zS} (hF : zFin true S) (hd : 4 ≤ d) {tp : Nat → Nat} {sz at0 nd r : Nat} (p : Nat) (hR : xR tp sz S r at0 nd) (hs0 : sz ≤ 300) (ha0 : at0 ≤ sz) (hr1 : 1639 ≤ r) (hr2 : r < gN S) (hN2 : gN S < 1800000) (hp : p ≤ 300) {post : Outcome × zS → Prop} (h1 : ∀ S1 : zS, (zFin true S1) → (pWant tp sz 40 at0 = .ok (at0 + 1)) → (xFr S S1) → (xR tp sz S1 r (at0 + 1) nd) → (gN S ≤ gN S1 ∧ gN S1 ≤ gN S + 0 ∧ gZ S1 ≤ gZ S + 0) → ((at0 + 1) ≤ sz) → ∀ S3 : zS, ∀ v3 : Nat, (zFin true S3) → (pLet tp sz 48 55 (at0 + 1) = .ok (v3, at0 + 2)) → (xFr S1 S3) → (xR tp sz S3 r (at0 + 2) nd) → (gN S1 ≤ gN S3 ∧ gN S3 ≤ gN S1 + 0 ∧ gZ S3 ≤ gZ S1 + 0) → ((at0 + 2) ≤ sz) → (v3 ≤ 7) → ∀ S5 : zS, (zFin true S5) → (pWant tp sz 41 (at0 + 2) = .ok (at0 + 3)) → (xFr S3 S5) → (xR tp sz S5 r (at0 + 3) nd) → (gN S3 ≤ gN S5 ∧ gN S5 ≤ gN S3 + 0 ∧ gZ S5 ≤ gZ S3 + 0) → ((at0 + 3) ≤ sz) → ∀ S22 : zS, (zFin true S22) → (pJ (tN 7 v3 [] p []) = .ok (tN 7 v3 [] p [])) → (xJd (sI (sI (sI (sP (sNew S5 15 0 (zslots 15)) 172 (gN S5) (some 0)) 144 (gN S5) (Int32.ofNat p)) 170 (gN S5) 1) 171 (gN S5) (Int32.ofNat v3)) (gN S5) S22) → (xTl (gN S) S22 (tN 7 v3 [] p []) (gN S5)) → (xR tp sz S22 r (at0 + 3) nd) → (gN S22 = gN S5 + 1 ∧ gZ S22 = gZ S5 + 20) → post (.returned (some (.ref (gN S5))), S22)) (h2 : ∀ S1 : zS, (zFin true S1) → (pWant tp sz 40 at0 = .ok (at0 + 1)) → (xFr S S1) → (xR tp sz S1 r (at0 + 1) nd) → (gN S ≤ gN S1 ∧ gN S1 ≤ gN S + 0 ∧ gZ S1 ≤ gZ S + 0) → ((at0 + 1) ≤ sz) → ∀ S3 : zS, ∀ v3 : Nat, (zFin true S3) → (pLet tp sz 48 55 (at0 + 1) = .ok (v3, at0 + 2)) → (xFr S1 S3) → (xR tp sz S3 r (at0 + 2) nd) → (gN S1 ≤ gN S3 ∧ gN S3 ≤ gN S1 + 0 ∧ gZ S3 ≤ gZ S1 + 0) → ((at0 + 2) ≤ sz) → (v3 ≤ 7) → ∀ S5 : zS, (zFin true S5) → (pWant tp sz 41 (at0 + 2) = .ok (at0 + 3)) → (xFr S3 S5) → (xR tp sz S5 r (at0 + 3) nd) → (gN S3 ≤ gN S5 ∧ gN S5 ≤ gN S3 + 0 ∧ gZ S5 ≤ gZ S3 + 0) → ((at0 + 3) ≤ sz) → ∀ S23 : zS, ∀ q23 : Nat, (zFin true S23) → (pJ (tN 7 v3 [] p []) = .error (3, p)) → (xFn (sI (sI (sI (sP (sNew S5 15 0 (zslots 15)) 172 (gN S5) (some 0)) 144 (gN S5) (Int32.ofNat p)) 170 (gN S5) 1) 171 (gN S5) (Int32.ofNat v3)) (gN S5) S23) → (xFl S23 q23 3 p) → (gN S23 = gN S5 + 1 + 1 ∧ gZ S23 ≤ gZ S5 + 20 + 3) → post (.threw q23, S23)) (h3 : ∀ S1 : zS, (zFin true S1) → (pWant tp sz 40 at0 = .ok (at0 + 1)) → (xFr S S1) → (xR tp sz S1 r (at0 + 1) nd) → (gN S ≤ gN S1 ∧ gN S1 ≤ gN S + 0 ∧ gZ S1 ≤ gZ S + 0) → ((at0 + 1) ≤ sz) → ∀ S3 : zS, ∀ v3 : Nat, (zFin true S3) → (pLet tp sz 48 55 (at0 + 1) = .ok (v3, at0 + 2)) → (xFr S1 S3) → (xR tp sz S3 r (at0 + 2) nd) → (gN S1 ≤ gN S3 ∧ gN S3 ≤ gN S1 + 0 ∧ gZ S3 ≤ gZ S1 + 0) → ((at0 + 2) ≤ sz) → (v3 ≤ 7) → ∀ S6 : zS, ∀ q6 : Nat, (zFin true S6) → (pWant tp sz 41 (at0 + 2) = .error (1, at0 + 2)) → (xFr S3 S6) → (xFl S6 q6 1 (at0 + 2)) → (gN S3 ≤ gN S6 ∧ gN S6 ≤ gN S3 + 1 ∧ gZ S6 ≤ gZ S3 + 3) → post (.threw q6, S6)) (h4 : ∀ S1 : zS, (zFin true S1) → (pWant tp sz 40 at0 = .ok (at0 + 1)) → (xFr S S1) → (xR tp sz S1 r (at0 + 1) nd) → (gN S ≤ gN S1 ∧ gN S1 ≤ gN S + 0 ∧ gZ S1 ≤ gZ S + 0) → ((at0 + 1) ≤ sz) → ∀ S4 : zS, ∀ q4 : Nat, (zFin true S4) → (pLet tp sz 48 55 (at0 + 1) = .error (1, at0 + 1)) → (xFr S1 S4) → (xFl S4 q4 1 (at0 + 1)) → (gN S1 ≤ gN S4 ∧ gN S4 ≤ gN S1 + 1 ∧ gZ S4 ≤ gZ S1 + 3) → post (.threw q4, S4)) (h5 : ∀ S2 : zS, ∀ q2 : Nat, (zFin true S2) → (pWant tp sz 40 at0 = .error (1, at0)) → (xFr S S2) → (xFl S2 q2 1 at0) → (gN S ≤ gN S2 ∧ gN S2 ≤ gN S + 1 ∧ gZ S2 ≤ gZ S + 3) → post (.threw q2, S2)) : zCall d 257 [.ref r, .int (Int32.ofNat p), .int 1] S post := by
  have ht : ztab 257 = ztb257 := rfl
  show zEv d 257 0 [.ref r, .int (Int32.ofNat p), .int 1, .retAddr 0] [] S post
  refine zv_c1 ht rfl rfl (zv_c1 ht rfl rfl ?_)
  refine zv_cl ht rfl rfl rfl (zv_tgv (hR.1.2.2.2.1) rfl) (by omega) (Nat.le_of_ble_eq_true rfl) (x_take (S := S) (tp := tp) (sz := sz) (r := r) (w := 40) hF (by omega) hR (by omega) (by omega) (by omega) (fun S1 hF1 e1 k1 p1 g1 b1 => ?_) (fun S2 q2 hF2 e2 k2 x2 g2 => ?_))
  · show zEv d 257 6 [.ref r, .int (Int32.ofNat p), .int 1, .retAddr 0] [] S1 post
    refine zv_c1 ht rfl rfl ?_
    refine zv_cl ht rfl rfl rfl (zv_tgv (p1.1.2.2.2.1) rfl) (by omega) (Nat.le_of_ble_eq_true rfl) (x_secret (S := S1) (tp := tp) (sz := sz) (r := r) hF1 (by omega) p1 (by omega) (fun S3 v3 hF3 e3 k3 p3 g3 b3 c3 => ?_) (fun S4 q4 hF4 e4 k4 x4 g4 => ?_))
    · show zEv d 257 10 [.ref r, .int (Int32.ofNat p), .int 1, .retAddr 0] [.int (Int32.ofNat v3)] S3 post
      refine zv_c2 (L' := [.ref r, .int (Int32.ofNat p), .int 1, .int (Int32.ofNat v3)]) ht rfl rfl ?_
      refine zv_c1 ht rfl rfl (zv_c1 ht rfl rfl ?_)
      refine zv_cl ht rfl rfl rfl (zv_tgv (p3.1.2.2.2.1) rfl) (by omega) (Nat.le_of_ble_eq_true rfl) (x_take (S := S3) (tp := tp) (sz := sz) (r := r) (w := 41) hF3 (by omega) p3 (by omega) (by omega) (by omega) (fun S5 hF5 e5 k5 p5 g5 b5 => ?_) (fun S6 q6 hF6 e6 k6 x6 g6 => ?_))
      · show zEv d 257 17 [.ref r, .int (Int32.ofNat p), .int 1, .int (Int32.ofNat v3)] [] S5 post
        refine zv_c1 ht rfl rfl ?_
        refine zv_ci (st' := [.ref (gN S5), .ref r]) (S' := sNew S5 15 0 (zslots 15)) ht rfl rfl (znew_ok (show 1639 ≤ gN S5 from by omega) (show gN S5 < 2000000 from by omega)) ?_
        refine zv_c1 ht rfl rfl (zv_c1 ht rfl rfl ?_)
        refine zv_g3 (q := 0) ht rfl (zFin_new hF5) rfl rfl (zhas_of (Eq.trans (ztyp_new (S := S5) (t := 15) (n := 0) (s := zslots 15) (show r ≠ gN S5 from by omega)) p5.1.2.2.2.1) rfl) (Eq.trans (gP_new (S := S5) (t := 15) (n := 0) (s := zslots 15) (show r ≠ gN S5 from by omega)) p5.1.2.2.2.2) ?_
        refine zv_c1 ht rfl rfl (zv_c1 ht rfl rfl (zv_c1 ht rfl rfl ?_))
        have C8 : ∀ (pst7 : Outcome × zS → Prop), (pst7 (.returned none, sI (sI (sI (sP (sNew S5 15 0 (zslots 15)) 172 (gN S5) (some 0)) 144 (gN S5) (Int32.ofNat p)) 170 (gN S5) 1) 171 (gN S5) (Int32.ofNat v3))) → zCall (d - 1) 327 [.ref (gN S5), .ref 0, .int (Int32.ofNat p), .int 1, .int (Int32.ofNat v3)] (sNew S5 15 0 (zslots 15)) pst7 := by
          intro pst7 k18
          have ht9 : ztab 327 = ztb327 := rfl
          show zEv (d - 1) 327 0 [.ref (gN S5), .ref 0, .int (Int32.ofNat p), .int 1, .int (Int32.ofNat v3)] [] (sNew S5 15 0 (zslots 15)) pst7
          refine zv_c1 ht9 rfl rfl (zv_c1 ht9 rfl rfl ?_)
          refine zv_ci (S' := sP (sNew S5 15 0 (zslots 15)) 172 (gN S5) (some 0)) ht9 rfl rfl ⟨(zhas_of (ztyp_new_at (S := S5) (t := 15) (n := 0) (s := zslots 15) (show 1639 ≤ gN S5 from by omega)) rfl), (show gN S5 < gN S5 + 1 from by omega)⟩ ?_
          refine zv_c1 ht9 rfl rfl (zv_c1 ht9 rfl rfl (zv_c1 ht9 rfl rfl ?_))
          have C11 : ∀ (pst10 : Outcome × zS → Prop), (pst10 (.returned none, sI (sP (sNew S5 15 0 (zslots 15)) 172 (gN S5) (some 0)) 144 (gN S5) (Int32.ofNat p))) → zCall ((d - 1) - 1) 306 [.ref (gN S5), .ref 0, .int (Int32.ofNat p)] (sP (sNew S5 15 0 (zslots 15)) 172 (gN S5) (some 0)) pst10 := by
            intro pst10 k17
            have ht12 : ztab 306 = ztb306 := rfl
            show zEv ((d - 1) - 1) 306 0 [.ref (gN S5), .ref 0, .int (Int32.ofNat p)] [] (sP (sNew S5 15 0 (zslots 15)) 172 (gN S5) (some 0)) pst10
            refine zv_c1 ht12 rfl rfl (zv_c1 ht12 rfl rfl ?_)
            refine zv_ci (S' := sP (sNew S5 15 0 (zslots 15)) 172 (gN S5) (some 0)) ht12 rfl rfl (zk5 (ztyp_new_at (S := S5) (t := 15) (n := 0) (s := zslots 15) (show 1639 ≤ gN S5 from by omega)) rfl (show gN S5 < gN S5 + 1 from by omega) rfl gP_sP_at) ?_
            refine zv_c1 ht12 rfl rfl (zv_c1 ht12 rfl rfl (zv_c1 ht12 rfl rfl ?_))
            have C14 : ∀ (pst13 : Outcome × zS → Prop), (pst13 (.returned none, sI (sP (sNew S5 15 0 (zslots 15)) 172 (gN S5) (some 0)) 144 (gN S5) (Int32.ofNat p))) → zCall (((d - 1) - 1) - 1) 280 [.ref (gN S5), .ref 0, .int (Int32.ofNat p)] (sP (sNew S5 15 0 (zslots 15)) 172 (gN S5) (some 0)) pst13 := by
              intro pst13 k16
              have ht15 : ztab 280 = ztb280 := rfl
              show zEv (((d - 1) - 1) - 1) 280 0 [.ref (gN S5), .ref 0, .int (Int32.ofNat p)] [] (sP (sNew S5 15 0 (zslots 15)) 172 (gN S5) (some 0)) pst13
              refine zv_c1 ht15 rfl rfl (zv_c1 ht15 rfl rfl ?_)
              refine zv_ci (S' := sP (sNew S5 15 0 (zslots 15)) 172 (gN S5) (some 0)) ht15 rfl rfl (zk5 (ztyp_new_at (S := S5) (t := 15) (n := 0) (s := zslots 15) (show 1639 ≤ gN S5 from by omega)) rfl (show gN S5 < gN S5 + 1 from by omega) rfl gP_sP_at) ?_
              refine zv_c1 ht15 rfl rfl (zv_c1 ht15 rfl rfl (zv_c1 ht15 rfl rfl (zv_c1 ht15 rfl rfl ?_)))
              refine zv_ci (S' := sI (sP (sNew S5 15 0 (zslots 15)) 172 (gN S5) (some 0)) 144 (gN S5) (Int32.ofNat p)) ht15 rfl rfl ⟨(zhas_of (ztyp_new_at (S := S5) (t := 15) (n := 0) (s := zslots 15) (show 1639 ≤ gN S5 from by omega)) rfl), (show gN S5 < gN S5 + 1 from by omega)⟩ ?_
              exact zv_rt ht15 rfl rfl rfl rfl k16
            refine zv_cl ht12 rfl rfl rfl rfl (by omega) (Nat.le_of_ble_eq_true rfl) (C14 _ ?_)
            show zEv ((d - 1) - 1) 306 11 [.ref (gN S5), .ref 0, .int (Int32.ofNat p)] [] (sI (sP (sNew S5 15 0 (zslots 15)) 172 (gN S5) (some 0)) 144 (gN S5) (Int32.ofNat p)) pst10
            exact zv_rt ht12 rfl rfl rfl rfl k17
          refine zv_cl ht9 rfl rfl rfl rfl (by omega) (Nat.le_of_ble_eq_true rfl) (C11 _ ?_)
          show zEv (d - 1) 327 11 [.ref (gN S5), .ref 0, .int (Int32.ofNat p), .int 1, .int (Int32.ofNat v3)] [] (sI (sP (sNew S5 15 0 (zslots 15)) 172 (gN S5) (some 0)) 144 (gN S5) (Int32.ofNat p)) pst7
          refine zv_c1 ht9 rfl rfl (zv_c1 ht9 rfl rfl ?_)
          refine zv_ci (S' := sI (sI (sP (sNew S5 15 0 (zslots 15)) 172 (gN S5) (some 0)) 144 (gN S5) (Int32.ofNat p)) 170 (gN S5) 1) ht9 rfl rfl ⟨(zhas_of (ztyp_new_at (S := S5) (t := 15) (n := 0) (s := zslots 15) (show 1639 ≤ gN S5 from by omega)) rfl), (show gN S5 < gN S5 + 1 from by omega)⟩ ?_
          refine zv_c1 ht9 rfl rfl (zv_c1 ht9 rfl rfl ?_)
          refine zv_ci (S' := sI (sI (sI (sP (sNew S5 15 0 (zslots 15)) 172 (gN S5) (some 0)) 144 (gN S5) (Int32.ofNat p)) 170 (gN S5) 1) 171 (gN S5) (Int32.ofNat v3)) ht9 rfl rfl ⟨(zhas_of (ztyp_new_at (S := S5) (t := 15) (n := 0) (s := zslots 15) (show 1639 ≤ gN S5 from by omega)) rfl), (show gN S5 < gN S5 + 1 from by omega)⟩ ?_
          exact zv_rt ht9 rfl rfl rfl rfl k18
        refine zv_cl ht rfl rfl rfl rfl (by omega) (Nat.le_of_ble_eq_true rfl) (C8 _ ?_)
        show zEv d 257 32 [.ref r, .int (Int32.ofNat p), .int 1, .int (Int32.ofNat v3)] [.ref (gN S5), .ref r] (sI (sI (sI (sP (sNew S5 15 0 (zslots 15)) 172 (gN S5) (some 0)) 144 (gN S5) (Int32.ofNat p)) 170 (gN S5) 1) 171 (gN S5) (Int32.ofNat v3)) post
        have C20 : ∀ (pst19 : Outcome × zS → Prop), (∀ S22 : zS, (zFin true S22) → (pJ (tN 7 v3 [] p []) = .ok (tN 7 v3 [] p [])) → (xJd (sI (sI (sI (sP (sNew S5 15 0 (zslots 15)) 172 (gN S5) (some 0)) 144 (gN S5) (Int32.ofNat p)) 170 (gN S5) 1) 171 (gN S5) (Int32.ofNat v3)) (gN S5) S22) → (xTl (gN S) S22 (tN 7 v3 [] p []) (gN S5)) → (xR tp sz S22 r (at0 + 3) nd) → (gN S22 = gN S5 + 1 ∧ gZ S22 = gZ S5 + 20) → pst19 (.returned (some (.ref (gN S5))), S22)) → (∀ S23 : zS, ∀ q23 : Nat, (zFin true S23) → (pJ (tN 7 v3 [] p []) = .error (3, p)) → (xFn (sI (sI (sI (sP (sNew S5 15 0 (zslots 15)) 172 (gN S5) (some 0)) 144 (gN S5) (Int32.ofNat p)) 170 (gN S5) 1) 171 (gN S5) (Int32.ofNat v3)) (gN S5) S23) → (xFl S23 q23 3 p) → (gN S23 = gN S5 + 1 + 1 ∧ gZ S23 ≤ gZ S5 + 20 + 3) → pst19 (.threw q23, S23)) → zCall (d - 1) 253 [.ref r, .ref (gN S5)] (sI (sI (sI (sP (sNew S5 15 0 (zslots 15)) 172 (gN S5) (some 0)) 144 (gN S5) (Int32.ofNat p)) 170 (gN S5) 1) 171 (gN S5) (Int32.ofNat v3)) pst19 := by
          intro pst19 k24 k25
          have ht21 : ztab 253 = ztb253 := rfl
          show zEv (d - 1) 253 0 [.ref r, .ref (gN S5)] [] (sI (sI (sI (sP (sNew S5 15 0 (zslots 15)) 172 (gN S5) (some 0)) 144 (gN S5) (Int32.ofNat p)) 170 (gN S5) 1) 171 (gN S5) (Int32.ofNat v3)) pst19
          refine zv_c1 ht21 rfl rfl ?_
          refine zv_cl ht21 rfl rfl rfl (zv_tgm (ztyp_new_at (S := S5) (t := 15) (n := 0) (s := zslots 15) (show 1639 ≤ gN S5 from by omega)) rfl) (by omega) (Nat.le_of_ble_eq_true rfl) (x_judgeR (S := sI (sI (sI (sP (sNew S5 15 0 (zslots 15)) 172 (gN S5) (some 0)) 144 (gN S5) (Int32.ofNat p)) 170 (gN S5) 1) 171 (gN S5) (Int32.ofNat v3)) (tp := tp) (sz := sz) (r := r) (a := gN S5) (k := 7) (v := v3) (p := p) (ks := []) (js := []) (cs := []) (g := gN S5 + 1) (lo := gN S) (zFin_sP (zFin_new hF5) rfl) (by omega) (by omega) (by omega) (by omega) (by omega) rfl (xOwn_I (by decide) (ztyp_new_at (S := S5) (t := 15) (n := 0) (s := zslots 15) (show 1639 ≤ gN S5 from by omega)) (gI_sI_at) (gI_sI_at) (gP_sP_at) (by omega)) rfl (by decide) (by omega) (gI_sI_at) (gI_new_at (S := S5) (t := 15) (n := 0) (s := zslots 15)) (gI_new_at (S := S5) (t := 15) (n := 0) (s := zslots 15)) (xR.ke (Fs := []) p5 (zKE.tr (zKE.tr (zKE.tr (zKE.tr (zKE.tr zKE.rf (zKE_new (show gN S5 ≤ gN S5 ∧ gN S5 < zLB from ⟨by omega, by have hLB : zLB = 4294967296 := rfl; omega⟩))) (zKE_sP (Or.inr (Or.inr ⟨by omega, by have hLB : zLB = 4294967296 := rfl; omega⟩)))) (zKE_sI (Or.inr (Or.inr ⟨by omega, by have hLB : zLB = 4294967296 := rfl; omega⟩)))) (zKE_sI (Or.inr (Or.inr ⟨by omega, by have hLB : zLB = 4294967296 := rfl; omega⟩)))) (zKE_sI (Or.inr (Or.inr ⟨by omega, by have hLB : zLB = 4294967296 := rfl; omega⟩)))) (by omega) (by decide)) (by omega) (fun S22 hF22 e22 j22 t22 p22 g22 => ?_) (fun S23 q23 hF23 e23 k23 x23 g23 => ?_))
          · show zEv (d - 1) 253 4 [.ref r, .ref (gN S5)] [] S22 pst19
            refine zv_c1 ht21 rfl rfl ?_
            exact zv_rt ht21 rfl rfl rfl rfl (k24 S22 hF22 e22 j22 t22 p22 g22)
          · exact (k25 S23 q23 hF23 e23 k23 x23 g23)
        refine zv_cl ht rfl rfl rfl (zv_tgv (Eq.trans (ztyp_new (S := S5) (t := 15) (n := 0) (s := zslots 15) (show r ≠ gN S5 from by omega)) p5.1.2.2.2.1) rfl) (by omega) (Nat.le_of_ble_eq_true rfl) (C20 _ (fun S22 hF22 e22 j22 t22 p22 g22 => ?_) (fun S23 q23 hF23 e23 k23 x23 g23 => ?_))
        · show zEv d 257 35 [.ref r, .int (Int32.ofNat p), .int 1, .int (Int32.ofNat v3)] [.ref (gN S5)] S22 post
          exact zv_rt ht rfl rfl rfl rfl (h1 S1 hF1 e1 k1 p1 g1 b1 S3 v3 hF3 e3 k3 p3 g3 b3 c3 S5 hF5 e5 k5 p5 g5 b5 S22 hF22 e22 j22 t22 p22 g22)
        · exact (h2 S1 hF1 e1 k1 p1 g1 b1 S3 v3 hF3 e3 k3 p3 g3 b3 c3 S5 hF5 e5 k5 p5 g5 b5 S23 q23 hF23 e23 k23 x23 g23)
      · exact (h3 S1 hF1 e1 k1 p1 g1 b1 S3 v3 hF3 e3 k3 p3 g3 b3 c3 S6 q6 hF6 e6 k6 x6 g6)
    · exact (h4 S1 hF1 e1 k1 p1 g1 b1 S4 q4 hF4 e4 k4 x4 g4)
  · exact (h5 S2 q2 hF2 e2 k2 x2 g2)

theorem im8 {d : Nat} {S : zS} (hF : zFin true S) (hd : 4 ≤ d) {tp : Nat → Nat} {sz at0 nd r : Nat} (p : Nat) (hR : xR tp sz S r at0 nd) (hs0 : sz ≤ 300) (ha0 : at0 ≤ sz) (hr1 : 1639 ≤ r) (hr2 : r < gN S) (hN2 : gN S < 1800000) (hp : p ≤ 300) {post : Outcome × zS → Prop} (h1 : ∀ S1 : zS, (zFin true S1) → (pWant tp sz 40 at0 = .ok (at0 + 1)) → (xFr S S1) → (xR tp sz S1 r (at0 + 1) nd) → (gN S ≤ gN S1 ∧ gN S1 ≤ gN S + 0 ∧ gZ S1 ≤ gZ S + 0) → ((at0 + 1) ≤ sz) → ∀ S3 : zS, ∀ v3 : Nat, (zFin true S3) → (pLet tp sz 48 55 (at0 + 1) = .ok (v3, at0 + 2)) → (xFr S1 S3) → (xR tp sz S3 r (at0 + 2) nd) → (gN S1 ≤ gN S3 ∧ gN S3 ≤ gN S1 + 0 ∧ gZ S3 ≤ gZ S1 + 0) → ((at0 + 2) ≤ sz) → (v3 ≤ 7) → ∀ S5 : zS, (zFin true S5) → (pWant tp sz 41 (at0 + 2) = .ok (at0 + 3)) → (xFr S3 S5) → (xR tp sz S5 r (at0 + 3) nd) → (gN S3 ≤ gN S5 ∧ gN S5 ≤ gN S3 + 0 ∧ gZ S5 ≤ gZ S3 + 0) → ((at0 + 3) ≤ sz) → ∀ S22 : zS, (zFin true S22) → (pJ (tN 8 v3 [] p []) = .ok (tN 8 v3 [] p [])) → (xJd (sI (sI (sI (sP (sNew S5 15 0 (zslots 15)) 172 (gN S5) (some 0)) 144 (gN S5) (Int32.ofNat p)) 170 (gN S5) 2) 171 (gN S5) (Int32.ofNat v3)) (gN S5) S22) → (xTl (gN S) S22 (tN 8 v3 [] p []) (gN S5)) → (xR tp sz S22 r (at0 + 3) nd) → (gN S22 = gN S5 + 1 ∧ gZ S22 = gZ S5 + 20) → post (.returned (some (.ref (gN S5))), S22)) (h2 : ∀ S1 : zS, (zFin true S1) → (pWant tp sz 40 at0 = .ok (at0 + 1)) → (xFr S S1) → (xR tp sz S1 r (at0 + 1) nd) → (gN S ≤ gN S1 ∧ gN S1 ≤ gN S + 0 ∧ gZ S1 ≤ gZ S + 0) → ((at0 + 1) ≤ sz) → ∀ S3 : zS, ∀ v3 : Nat, (zFin true S3) → (pLet tp sz 48 55 (at0 + 1) = .ok (v3, at0 + 2)) → (xFr S1 S3) → (xR tp sz S3 r (at0 + 2) nd) → (gN S1 ≤ gN S3 ∧ gN S3 ≤ gN S1 + 0 ∧ gZ S3 ≤ gZ S1 + 0) → ((at0 + 2) ≤ sz) → (v3 ≤ 7) → ∀ S5 : zS, (zFin true S5) → (pWant tp sz 41 (at0 + 2) = .ok (at0 + 3)) → (xFr S3 S5) → (xR tp sz S5 r (at0 + 3) nd) → (gN S3 ≤ gN S5 ∧ gN S5 ≤ gN S3 + 0 ∧ gZ S5 ≤ gZ S3 + 0) → ((at0 + 3) ≤ sz) → ∀ S23 : zS, ∀ q23 : Nat, (zFin true S23) → (pJ (tN 8 v3 [] p []) = .error (3, p)) → (xFn (sI (sI (sI (sP (sNew S5 15 0 (zslots 15)) 172 (gN S5) (some 0)) 144 (gN S5) (Int32.ofNat p)) 170 (gN S5) 2) 171 (gN S5) (Int32.ofNat v3)) (gN S5) S23) → (xFl S23 q23 3 p) → (gN S23 = gN S5 + 1 + 1 ∧ gZ S23 ≤ gZ S5 + 20 + 3) → post (.threw q23, S23)) (h3 : ∀ S1 : zS, (zFin true S1) → (pWant tp sz 40 at0 = .ok (at0 + 1)) → (xFr S S1) → (xR tp sz S1 r (at0 + 1) nd) → (gN S ≤ gN S1 ∧ gN S1 ≤ gN S + 0 ∧ gZ S1 ≤ gZ S + 0) → ((at0 + 1) ≤ sz) → ∀ S3 : zS, ∀ v3 : Nat, (zFin true S3) → (pLet tp sz 48 55 (at0 + 1) = .ok (v3, at0 + 2)) → (xFr S1 S3) → (xR tp sz S3 r (at0 + 2) nd) → (gN S1 ≤ gN S3 ∧ gN S3 ≤ gN S1 + 0 ∧ gZ S3 ≤ gZ S1 + 0) → ((at0 + 2) ≤ sz) → (v3 ≤ 7) → ∀ S6 : zS, ∀ q6 : Nat, (zFin true S6) → (pWant tp sz 41 (at0 + 2) = .error (1, at0 + 2)) → (xFr S3 S6) → (xFl S6 q6 1 (at0 + 2)) → (gN S3 ≤ gN S6 ∧ gN S6 ≤ gN S3 + 1 ∧ gZ S6 ≤ gZ S3 + 3) → post (.threw q6, S6)) (h4 : ∀ S1 : zS, (zFin true S1) → (pWant tp sz 40 at0 = .ok (at0 + 1)) → (xFr S S1) → (xR tp sz S1 r (at0 + 1) nd) → (gN S ≤ gN S1 ∧ gN S1 ≤ gN S + 0 ∧ gZ S1 ≤ gZ S + 0) → ((at0 + 1) ≤ sz) → ∀ S4 : zS, ∀ q4 : Nat, (zFin true S4) → (pLet tp sz 48 55 (at0 + 1) = .error (1, at0 + 1)) → (xFr S1 S4) → (xFl S4 q4 1 (at0 + 1)) → (gN S1 ≤ gN S4 ∧ gN S4 ≤ gN S1 + 1 ∧ gZ S4 ≤ gZ S1 + 3) → post (.threw q4, S4)) (h5 : ∀ S2 : zS, ∀ q2 : Nat, (zFin true S2) → (pWant tp sz 40 at0 = .error (1, at0)) → (xFr S S2) → (xFl S2 q2 1 at0) → (gN S ≤ gN S2 ∧ gN S2 ≤ gN S + 1 ∧ gZ S2 ≤ gZ S + 3) → post (.threw q2, S2)) : zCall d 257 [.ref r, .int (Int32.ofNat p), .int 2] S post := by
  have ht : ztab 257 = ztb257 := rfl
  show zEv d 257 0 [.ref r, .int (Int32.ofNat p), .int 2, .retAddr 0] [] S post
  refine zv_c1 ht rfl rfl (zv_c1 ht rfl rfl ?_)
  refine zv_cl ht rfl rfl rfl (zv_tgv (hR.1.2.2.2.1) rfl) (by omega) (Nat.le_of_ble_eq_true rfl) (x_take (S := S) (tp := tp) (sz := sz) (r := r) (w := 40) hF (by omega) hR (by omega) (by omega) (by omega) (fun S1 hF1 e1 k1 p1 g1 b1 => ?_) (fun S2 q2 hF2 e2 k2 x2 g2 => ?_))
  · show zEv d 257 6 [.ref r, .int (Int32.ofNat p), .int 2, .retAddr 0] [] S1 post
    refine zv_c1 ht rfl rfl ?_
    refine zv_cl ht rfl rfl rfl (zv_tgv (p1.1.2.2.2.1) rfl) (by omega) (Nat.le_of_ble_eq_true rfl) (x_secret (S := S1) (tp := tp) (sz := sz) (r := r) hF1 (by omega) p1 (by omega) (fun S3 v3 hF3 e3 k3 p3 g3 b3 c3 => ?_) (fun S4 q4 hF4 e4 k4 x4 g4 => ?_))
    · show zEv d 257 10 [.ref r, .int (Int32.ofNat p), .int 2, .retAddr 0] [.int (Int32.ofNat v3)] S3 post
      refine zv_c2 (L' := [.ref r, .int (Int32.ofNat p), .int 2, .int (Int32.ofNat v3)]) ht rfl rfl ?_
      refine zv_c1 ht rfl rfl (zv_c1 ht rfl rfl ?_)
      refine zv_cl ht rfl rfl rfl (zv_tgv (p3.1.2.2.2.1) rfl) (by omega) (Nat.le_of_ble_eq_true rfl) (x_take (S := S3) (tp := tp) (sz := sz) (r := r) (w := 41) hF3 (by omega) p3 (by omega) (by omega) (by omega) (fun S5 hF5 e5 k5 p5 g5 b5 => ?_) (fun S6 q6 hF6 e6 k6 x6 g6 => ?_))
      · show zEv d 257 17 [.ref r, .int (Int32.ofNat p), .int 2, .int (Int32.ofNat v3)] [] S5 post
        refine zv_c1 ht rfl rfl ?_
        refine zv_ci (st' := [.ref (gN S5), .ref r]) (S' := sNew S5 15 0 (zslots 15)) ht rfl rfl (znew_ok (show 1639 ≤ gN S5 from by omega) (show gN S5 < 2000000 from by omega)) ?_
        refine zv_c1 ht rfl rfl (zv_c1 ht rfl rfl ?_)
        refine zv_g3 (q := 0) ht rfl (zFin_new hF5) rfl rfl (zhas_of (Eq.trans (ztyp_new (S := S5) (t := 15) (n := 0) (s := zslots 15) (show r ≠ gN S5 from by omega)) p5.1.2.2.2.1) rfl) (Eq.trans (gP_new (S := S5) (t := 15) (n := 0) (s := zslots 15) (show r ≠ gN S5 from by omega)) p5.1.2.2.2.2) ?_
        refine zv_c1 ht rfl rfl (zv_c1 ht rfl rfl (zv_c1 ht rfl rfl ?_))
        have C8 : ∀ (pst7 : Outcome × zS → Prop), (pst7 (.returned none, sI (sI (sI (sP (sNew S5 15 0 (zslots 15)) 172 (gN S5) (some 0)) 144 (gN S5) (Int32.ofNat p)) 170 (gN S5) 2) 171 (gN S5) (Int32.ofNat v3))) → zCall (d - 1) 327 [.ref (gN S5), .ref 0, .int (Int32.ofNat p), .int 2, .int (Int32.ofNat v3)] (sNew S5 15 0 (zslots 15)) pst7 := by
          intro pst7 k18
          have ht9 : ztab 327 = ztb327 := rfl
          show zEv (d - 1) 327 0 [.ref (gN S5), .ref 0, .int (Int32.ofNat p), .int 2, .int (Int32.ofNat v3)] [] (sNew S5 15 0 (zslots 15)) pst7
          refine zv_c1 ht9 rfl rfl (zv_c1 ht9 rfl rfl ?_)
          refine zv_ci (S' := sP (sNew S5 15 0 (zslots 15)) 172 (gN S5) (some 0)) ht9 rfl rfl ⟨(zhas_of (ztyp_new_at (S := S5) (t := 15) (n := 0) (s := zslots 15) (show 1639 ≤ gN S5 from by omega)) rfl), (show gN S5 < gN S5 + 1 from by omega)⟩ ?_
          refine zv_c1 ht9 rfl rfl (zv_c1 ht9 rfl rfl (zv_c1 ht9 rfl rfl ?_))
          have C11 : ∀ (pst10 : Outcome × zS → Prop), (pst10 (.returned none, sI (sP (sNew S5 15 0 (zslots 15)) 172 (gN S5) (some 0)) 144 (gN S5) (Int32.ofNat p))) → zCall ((d - 1) - 1) 306 [.ref (gN S5), .ref 0, .int (Int32.ofNat p)] (sP (sNew S5 15 0 (zslots 15)) 172 (gN S5) (some 0)) pst10 := by
            intro pst10 k17
            have ht12 : ztab 306 = ztb306 := rfl
            show zEv ((d - 1) - 1) 306 0 [.ref (gN S5), .ref 0, .int (Int32.ofNat p)] [] (sP (sNew S5 15 0 (zslots 15)) 172 (gN S5) (some 0)) pst10
            refine zv_c1 ht12 rfl rfl (zv_c1 ht12 rfl rfl ?_)
            refine zv_ci (S' := sP (sNew S5 15 0 (zslots 15)) 172 (gN S5) (some 0)) ht12 rfl rfl (zk5 (ztyp_new_at (S := S5) (t := 15) (n := 0) (s := zslots 15) (show 1639 ≤ gN S5 from by omega)) rfl (show gN S5 < gN S5 + 1 from by omega) rfl gP_sP_at) ?_
            refine zv_c1 ht12 rfl rfl (zv_c1 ht12 rfl rfl (zv_c1 ht12 rfl rfl ?_))
            have C14 : ∀ (pst13 : Outcome × zS → Prop), (pst13 (.returned none, sI (sP (sNew S5 15 0 (zslots 15)) 172 (gN S5) (some 0)) 144 (gN S5) (Int32.ofNat p))) → zCall (((d - 1) - 1) - 1) 280 [.ref (gN S5), .ref 0, .int (Int32.ofNat p)] (sP (sNew S5 15 0 (zslots 15)) 172 (gN S5) (some 0)) pst13 := by
              intro pst13 k16
              have ht15 : ztab 280 = ztb280 := rfl
              show zEv (((d - 1) - 1) - 1) 280 0 [.ref (gN S5), .ref 0, .int (Int32.ofNat p)] [] (sP (sNew S5 15 0 (zslots 15)) 172 (gN S5) (some 0)) pst13
              refine zv_c1 ht15 rfl rfl (zv_c1 ht15 rfl rfl ?_)
              refine zv_ci (S' := sP (sNew S5 15 0 (zslots 15)) 172 (gN S5) (some 0)) ht15 rfl rfl (zk5 (ztyp_new_at (S := S5) (t := 15) (n := 0) (s := zslots 15) (show 1639 ≤ gN S5 from by omega)) rfl (show gN S5 < gN S5 + 1 from by omega) rfl gP_sP_at) ?_
              refine zv_c1 ht15 rfl rfl (zv_c1 ht15 rfl rfl (zv_c1 ht15 rfl rfl (zv_c1 ht15 rfl rfl ?_)))
              refine zv_ci (S' := sI (sP (sNew S5 15 0 (zslots 15)) 172 (gN S5) (some 0)) 144 (gN S5) (Int32.ofNat p)) ht15 rfl rfl ⟨(zhas_of (ztyp_new_at (S := S5) (t := 15) (n := 0) (s := zslots 15) (show 1639 ≤ gN S5 from by omega)) rfl), (show gN S5 < gN S5 + 1 from by omega)⟩ ?_
              exact zv_rt ht15 rfl rfl rfl rfl k16
            refine zv_cl ht12 rfl rfl rfl rfl (by omega) (Nat.le_of_ble_eq_true rfl) (C14 _ ?_)
            show zEv ((d - 1) - 1) 306 11 [.ref (gN S5), .ref 0, .int (Int32.ofNat p)] [] (sI (sP (sNew S5 15 0 (zslots 15)) 172 (gN S5) (some 0)) 144 (gN S5) (Int32.ofNat p)) pst10
            exact zv_rt ht12 rfl rfl rfl rfl k17
          refine zv_cl ht9 rfl rfl rfl rfl (by omega) (Nat.le_of_ble_eq_true rfl) (C11 _ ?_)
          show zEv (d - 1) 327 11 [.ref (gN S5), .ref 0, .int (Int32.ofNat p), .int 2, .int (Int32.ofNat v3)] [] (sI (sP (sNew S5 15 0 (zslots 15)) 172 (gN S5) (some 0)) 144 (gN S5) (Int32.ofNat p)) pst7
          refine zv_c1 ht9 rfl rfl (zv_c1 ht9 rfl rfl ?_)
          refine zv_ci (S' := sI (sI (sP (sNew S5 15 0 (zslots 15)) 172 (gN S5) (some 0)) 144 (gN S5) (Int32.ofNat p)) 170 (gN S5) 2) ht9 rfl rfl ⟨(zhas_of (ztyp_new_at (S := S5) (t := 15) (n := 0) (s := zslots 15) (show 1639 ≤ gN S5 from by omega)) rfl), (show gN S5 < gN S5 + 1 from by omega)⟩ ?_
          refine zv_c1 ht9 rfl rfl (zv_c1 ht9 rfl rfl ?_)
          refine zv_ci (S' := sI (sI (sI (sP (sNew S5 15 0 (zslots 15)) 172 (gN S5) (some 0)) 144 (gN S5) (Int32.ofNat p)) 170 (gN S5) 2) 171 (gN S5) (Int32.ofNat v3)) ht9 rfl rfl ⟨(zhas_of (ztyp_new_at (S := S5) (t := 15) (n := 0) (s := zslots 15) (show 1639 ≤ gN S5 from by omega)) rfl), (show gN S5 < gN S5 + 1 from by omega)⟩ ?_
          exact zv_rt ht9 rfl rfl rfl rfl k18
        refine zv_cl ht rfl rfl rfl rfl (by omega) (Nat.le_of_ble_eq_true rfl) (C8 _ ?_)
        show zEv d 257 32 [.ref r, .int (Int32.ofNat p), .int 2, .int (Int32.ofNat v3)] [.ref (gN S5), .ref r] (sI (sI (sI (sP (sNew S5 15 0 (zslots 15)) 172 (gN S5) (some 0)) 144 (gN S5) (Int32.ofNat p)) 170 (gN S5) 2) 171 (gN S5) (Int32.ofNat v3)) post
        have C20 : ∀ (pst19 : Outcome × zS → Prop), (∀ S22 : zS, (zFin true S22) → (pJ (tN 8 v3 [] p []) = .ok (tN 8 v3 [] p [])) → (xJd (sI (sI (sI (sP (sNew S5 15 0 (zslots 15)) 172 (gN S5) (some 0)) 144 (gN S5) (Int32.ofNat p)) 170 (gN S5) 2) 171 (gN S5) (Int32.ofNat v3)) (gN S5) S22) → (xTl (gN S) S22 (tN 8 v3 [] p []) (gN S5)) → (xR tp sz S22 r (at0 + 3) nd) → (gN S22 = gN S5 + 1 ∧ gZ S22 = gZ S5 + 20) → pst19 (.returned (some (.ref (gN S5))), S22)) → (∀ S23 : zS, ∀ q23 : Nat, (zFin true S23) → (pJ (tN 8 v3 [] p []) = .error (3, p)) → (xFn (sI (sI (sI (sP (sNew S5 15 0 (zslots 15)) 172 (gN S5) (some 0)) 144 (gN S5) (Int32.ofNat p)) 170 (gN S5) 2) 171 (gN S5) (Int32.ofNat v3)) (gN S5) S23) → (xFl S23 q23 3 p) → (gN S23 = gN S5 + 1 + 1 ∧ gZ S23 ≤ gZ S5 + 20 + 3) → pst19 (.threw q23, S23)) → zCall (d - 1) 253 [.ref r, .ref (gN S5)] (sI (sI (sI (sP (sNew S5 15 0 (zslots 15)) 172 (gN S5) (some 0)) 144 (gN S5) (Int32.ofNat p)) 170 (gN S5) 2) 171 (gN S5) (Int32.ofNat v3)) pst19 := by
          intro pst19 k24 k25
          have ht21 : ztab 253 = ztb253 := rfl
          show zEv (d - 1) 253 0 [.ref r, .ref (gN S5)] [] (sI (sI (sI (sP (sNew S5 15 0 (zslots 15)) 172 (gN S5) (some 0)) 144 (gN S5) (Int32.ofNat p)) 170 (gN S5) 2) 171 (gN S5) (Int32.ofNat v3)) pst19
          refine zv_c1 ht21 rfl rfl ?_
          refine zv_cl ht21 rfl rfl rfl (zv_tgm (ztyp_new_at (S := S5) (t := 15) (n := 0) (s := zslots 15) (show 1639 ≤ gN S5 from by omega)) rfl) (by omega) (Nat.le_of_ble_eq_true rfl) (x_judgeR (S := sI (sI (sI (sP (sNew S5 15 0 (zslots 15)) 172 (gN S5) (some 0)) 144 (gN S5) (Int32.ofNat p)) 170 (gN S5) 2) 171 (gN S5) (Int32.ofNat v3)) (tp := tp) (sz := sz) (r := r) (a := gN S5) (k := 8) (v := v3) (p := p) (ks := []) (js := []) (cs := []) (g := gN S5 + 1) (lo := gN S) (zFin_sP (zFin_new hF5) rfl) (by omega) (by omega) (by omega) (by omega) (by omega) rfl (xOwn_I (by decide) (ztyp_new_at (S := S5) (t := 15) (n := 0) (s := zslots 15) (show 1639 ≤ gN S5 from by omega)) (gI_sI_at) (gI_sI_at) (gP_sP_at) (by omega)) rfl (by decide) (by omega) (gI_sI_at) (gI_new_at (S := S5) (t := 15) (n := 0) (s := zslots 15)) (gI_new_at (S := S5) (t := 15) (n := 0) (s := zslots 15)) (xR.ke (Fs := []) p5 (zKE.tr (zKE.tr (zKE.tr (zKE.tr (zKE.tr zKE.rf (zKE_new (show gN S5 ≤ gN S5 ∧ gN S5 < zLB from ⟨by omega, by have hLB : zLB = 4294967296 := rfl; omega⟩))) (zKE_sP (Or.inr (Or.inr ⟨by omega, by have hLB : zLB = 4294967296 := rfl; omega⟩)))) (zKE_sI (Or.inr (Or.inr ⟨by omega, by have hLB : zLB = 4294967296 := rfl; omega⟩)))) (zKE_sI (Or.inr (Or.inr ⟨by omega, by have hLB : zLB = 4294967296 := rfl; omega⟩)))) (zKE_sI (Or.inr (Or.inr ⟨by omega, by have hLB : zLB = 4294967296 := rfl; omega⟩)))) (by omega) (by decide)) (by omega) (fun S22 hF22 e22 j22 t22 p22 g22 => ?_) (fun S23 q23 hF23 e23 k23 x23 g23 => ?_))
          · show zEv (d - 1) 253 4 [.ref r, .ref (gN S5)] [] S22 pst19
            refine zv_c1 ht21 rfl rfl ?_
            exact zv_rt ht21 rfl rfl rfl rfl (k24 S22 hF22 e22 j22 t22 p22 g22)
          · exact (k25 S23 q23 hF23 e23 k23 x23 g23)
        refine zv_cl ht rfl rfl rfl (zv_tgv (Eq.trans (ztyp_new (S := S5) (t := 15) (n := 0) (s := zslots 15) (show r ≠ gN S5 from by omega)) p5.1.2.2.2.1) rfl) (by omega) (Nat.le_of_ble_eq_true rfl) (C20 _ (fun S22 hF22 e22 j22 t22 p22 g22 => ?_) (fun S23 q23 hF23 e23 k23 x23 g23 => ?_))
        · show zEv d 257 35 [.ref r, .int (Int32.ofNat p), .int 2, .int (Int32.ofNat v3)] [.ref (gN S5)] S22 post
          exact zv_rt ht rfl rfl rfl rfl (h1 S1 hF1 e1 k1 p1 g1 b1 S3 v3 hF3 e3 k3 p3 g3 b3 c3 S5 hF5 e5 k5 p5 g5 b5 S22 hF22 e22 j22 t22 p22 g22)
        · exact (h2 S1 hF1 e1 k1 p1 g1 b1 S3 v3 hF3 e3 k3 p3 g3 b3 c3 S5 hF5 e5 k5 p5 g5 b5 S23 q23 hF23 e23 k23 x23 g23)
      · exact (h3 S1 hF1 e1 k1 p1 g1 b1 S3 v3 hF3 e3 k3 p3 g3 b3 c3 S6 q6 hF6 e6 k6 x6 g6)
    · exact (h4 S1 hF1 e1 k1 p1 g1 b1 S4 q4 hF4 e4 k4 x4 g4)
  · exact (h5 S2 q2 hF2 e2 k2 x2 g2)

theorem im9 {d : Nat} {S : zS} (hF : zFin true S) (hd : 4 ≤ d) {tp : Nat → Nat} {sz at0 nd r : Nat} (p : Nat) (hR : xR tp sz S r at0 nd) (hs0 : sz ≤ 300) (ha0 : at0 ≤ sz) (hr1 : 1639 ≤ r) (hr2 : r < gN S) (hN2 : gN S < 1800000) (hp : p ≤ 300) {post : Outcome × zS → Prop} (h1 : ∀ S1 : zS, (zFin true S1) → (pWant tp sz 40 at0 = .ok (at0 + 1)) → (xFr S S1) → (xR tp sz S1 r (at0 + 1) nd) → (gN S ≤ gN S1 ∧ gN S1 ≤ gN S + 0 ∧ gZ S1 ≤ gZ S + 0) → ((at0 + 1) ≤ sz) → ∀ S3 : zS, ∀ v3 : Nat, (zFin true S3) → (pLet tp sz 48 55 (at0 + 1) = .ok (v3, at0 + 2)) → (xFr S1 S3) → (xR tp sz S3 r (at0 + 2) nd) → (gN S1 ≤ gN S3 ∧ gN S3 ≤ gN S1 + 0 ∧ gZ S3 ≤ gZ S1 + 0) → ((at0 + 2) ≤ sz) → (v3 ≤ 7) → ∀ S5 : zS, (zFin true S5) → (pWant tp sz 41 (at0 + 2) = .ok (at0 + 3)) → (xFr S3 S5) → (xR tp sz S5 r (at0 + 3) nd) → (gN S3 ≤ gN S5 ∧ gN S5 ≤ gN S3 + 0 ∧ gZ S5 ≤ gZ S3 + 0) → ((at0 + 3) ≤ sz) → ∀ S22 : zS, (zFin true S22) → (pJ (tN 9 v3 [] p []) = .ok (tN 9 v3 [] p [])) → (xJd (sI (sI (sI (sP (sNew S5 15 0 (zslots 15)) 172 (gN S5) (some 0)) 144 (gN S5) (Int32.ofNat p)) 170 (gN S5) 3) 171 (gN S5) (Int32.ofNat v3)) (gN S5) S22) → (xTl (gN S) S22 (tN 9 v3 [] p []) (gN S5)) → (xR tp sz S22 r (at0 + 3) nd) → (gN S22 = gN S5 + 1 ∧ gZ S22 = gZ S5 + 20) → post (.returned (some (.ref (gN S5))), S22)) (h2 : ∀ S1 : zS, (zFin true S1) → (pWant tp sz 40 at0 = .ok (at0 + 1)) → (xFr S S1) → (xR tp sz S1 r (at0 + 1) nd) → (gN S ≤ gN S1 ∧ gN S1 ≤ gN S + 0 ∧ gZ S1 ≤ gZ S + 0) → ((at0 + 1) ≤ sz) → ∀ S3 : zS, ∀ v3 : Nat, (zFin true S3) → (pLet tp sz 48 55 (at0 + 1) = .ok (v3, at0 + 2)) → (xFr S1 S3) → (xR tp sz S3 r (at0 + 2) nd) → (gN S1 ≤ gN S3 ∧ gN S3 ≤ gN S1 + 0 ∧ gZ S3 ≤ gZ S1 + 0) → ((at0 + 2) ≤ sz) → (v3 ≤ 7) → ∀ S5 : zS, (zFin true S5) → (pWant tp sz 41 (at0 + 2) = .ok (at0 + 3)) → (xFr S3 S5) → (xR tp sz S5 r (at0 + 3) nd) → (gN S3 ≤ gN S5 ∧ gN S5 ≤ gN S3 + 0 ∧ gZ S5 ≤ gZ S3 + 0) → ((at0 + 3) ≤ sz) → ∀ S23 : zS, ∀ q23 : Nat, (zFin true S23) → (pJ (tN 9 v3 [] p []) = .error (3, p)) → (xFn (sI (sI (sI (sP (sNew S5 15 0 (zslots 15)) 172 (gN S5) (some 0)) 144 (gN S5) (Int32.ofNat p)) 170 (gN S5) 3) 171 (gN S5) (Int32.ofNat v3)) (gN S5) S23) → (xFl S23 q23 3 p) → (gN S23 = gN S5 + 1 + 1 ∧ gZ S23 ≤ gZ S5 + 20 + 3) → post (.threw q23, S23)) (h3 : ∀ S1 : zS, (zFin true S1) → (pWant tp sz 40 at0 = .ok (at0 + 1)) → (xFr S S1) → (xR tp sz S1 r (at0 + 1) nd) → (gN S ≤ gN S1 ∧ gN S1 ≤ gN S + 0 ∧ gZ S1 ≤ gZ S + 0) → ((at0 + 1) ≤ sz) → ∀ S3 : zS, ∀ v3 : Nat, (zFin true S3) → (pLet tp sz 48 55 (at0 + 1) = .ok (v3, at0 + 2)) → (xFr S1 S3) → (xR tp sz S3 r (at0 + 2) nd) → (gN S1 ≤ gN S3 ∧ gN S3 ≤ gN S1 + 0 ∧ gZ S3 ≤ gZ S1 + 0) → ((at0 + 2) ≤ sz) → (v3 ≤ 7) → ∀ S6 : zS, ∀ q6 : Nat, (zFin true S6) → (pWant tp sz 41 (at0 + 2) = .error (1, at0 + 2)) → (xFr S3 S6) → (xFl S6 q6 1 (at0 + 2)) → (gN S3 ≤ gN S6 ∧ gN S6 ≤ gN S3 + 1 ∧ gZ S6 ≤ gZ S3 + 3) → post (.threw q6, S6)) (h4 : ∀ S1 : zS, (zFin true S1) → (pWant tp sz 40 at0 = .ok (at0 + 1)) → (xFr S S1) → (xR tp sz S1 r (at0 + 1) nd) → (gN S ≤ gN S1 ∧ gN S1 ≤ gN S + 0 ∧ gZ S1 ≤ gZ S + 0) → ((at0 + 1) ≤ sz) → ∀ S4 : zS, ∀ q4 : Nat, (zFin true S4) → (pLet tp sz 48 55 (at0 + 1) = .error (1, at0 + 1)) → (xFr S1 S4) → (xFl S4 q4 1 (at0 + 1)) → (gN S1 ≤ gN S4 ∧ gN S4 ≤ gN S1 + 1 ∧ gZ S4 ≤ gZ S1 + 3) → post (.threw q4, S4)) (h5 : ∀ S2 : zS, ∀ q2 : Nat, (zFin true S2) → (pWant tp sz 40 at0 = .error (1, at0)) → (xFr S S2) → (xFl S2 q2 1 at0) → (gN S ≤ gN S2 ∧ gN S2 ≤ gN S + 1 ∧ gZ S2 ≤ gZ S + 3) → post (.threw q2, S2)) : zCall d 257 [.ref r, .int (Int32.ofNat p), .int 3] S post := by
  have ht : ztab 257 = ztb257 := rfl
  show zEv d 257 0 [.ref r, .int (Int32.ofNat p), .int 3, .retAddr 0] [] S post
  refine zv_c1 ht rfl rfl (zv_c1 ht rfl rfl ?_)
  refine zv_cl ht rfl rfl rfl (zv_tgv (hR.1.2.2.2.1) rfl) (by omega) (Nat.le_of_ble_eq_true rfl) (x_take (S := S) (tp := tp) (sz := sz) (r := r) (w := 40) hF (by omega) hR (by omega) (by omega) (by omega) (fun S1 hF1 e1 k1 p1 g1 b1 => ?_) (fun S2 q2 hF2 e2 k2 x2 g2 => ?_))
  · show zEv d 257 6 [.ref r, .int (Int32.ofNat p), .int 3, .retAddr 0] [] S1 post
    refine zv_c1 ht rfl rfl ?_
    refine zv_cl ht rfl rfl rfl (zv_tgv (p1.1.2.2.2.1) rfl) (by omega) (Nat.le_of_ble_eq_true rfl) (x_secret (S := S1) (tp := tp) (sz := sz) (r := r) hF1 (by omega) p1 (by omega) (fun S3 v3 hF3 e3 k3 p3 g3 b3 c3 => ?_) (fun S4 q4 hF4 e4 k4 x4 g4 => ?_))
    · show zEv d 257 10 [.ref r, .int (Int32.ofNat p), .int 3, .retAddr 0] [.int (Int32.ofNat v3)] S3 post
      refine zv_c2 (L' := [.ref r, .int (Int32.ofNat p), .int 3, .int (Int32.ofNat v3)]) ht rfl rfl ?_
      refine zv_c1 ht rfl rfl (zv_c1 ht rfl rfl ?_)
      refine zv_cl ht rfl rfl rfl (zv_tgv (p3.1.2.2.2.1) rfl) (by omega) (Nat.le_of_ble_eq_true rfl) (x_take (S := S3) (tp := tp) (sz := sz) (r := r) (w := 41) hF3 (by omega) p3 (by omega) (by omega) (by omega) (fun S5 hF5 e5 k5 p5 g5 b5 => ?_) (fun S6 q6 hF6 e6 k6 x6 g6 => ?_))
      · show zEv d 257 17 [.ref r, .int (Int32.ofNat p), .int 3, .int (Int32.ofNat v3)] [] S5 post
        refine zv_c1 ht rfl rfl ?_
        refine zv_ci (st' := [.ref (gN S5), .ref r]) (S' := sNew S5 15 0 (zslots 15)) ht rfl rfl (znew_ok (show 1639 ≤ gN S5 from by omega) (show gN S5 < 2000000 from by omega)) ?_
        refine zv_c1 ht rfl rfl (zv_c1 ht rfl rfl ?_)
        refine zv_g3 (q := 0) ht rfl (zFin_new hF5) rfl rfl (zhas_of (Eq.trans (ztyp_new (S := S5) (t := 15) (n := 0) (s := zslots 15) (show r ≠ gN S5 from by omega)) p5.1.2.2.2.1) rfl) (Eq.trans (gP_new (S := S5) (t := 15) (n := 0) (s := zslots 15) (show r ≠ gN S5 from by omega)) p5.1.2.2.2.2) ?_
        refine zv_c1 ht rfl rfl (zv_c1 ht rfl rfl (zv_c1 ht rfl rfl ?_))
        have C8 : ∀ (pst7 : Outcome × zS → Prop), (pst7 (.returned none, sI (sI (sI (sP (sNew S5 15 0 (zslots 15)) 172 (gN S5) (some 0)) 144 (gN S5) (Int32.ofNat p)) 170 (gN S5) 3) 171 (gN S5) (Int32.ofNat v3))) → zCall (d - 1) 327 [.ref (gN S5), .ref 0, .int (Int32.ofNat p), .int 3, .int (Int32.ofNat v3)] (sNew S5 15 0 (zslots 15)) pst7 := by
          intro pst7 k18
          have ht9 : ztab 327 = ztb327 := rfl
          show zEv (d - 1) 327 0 [.ref (gN S5), .ref 0, .int (Int32.ofNat p), .int 3, .int (Int32.ofNat v3)] [] (sNew S5 15 0 (zslots 15)) pst7
          refine zv_c1 ht9 rfl rfl (zv_c1 ht9 rfl rfl ?_)
          refine zv_ci (S' := sP (sNew S5 15 0 (zslots 15)) 172 (gN S5) (some 0)) ht9 rfl rfl ⟨(zhas_of (ztyp_new_at (S := S5) (t := 15) (n := 0) (s := zslots 15) (show 1639 ≤ gN S5 from by omega)) rfl), (show gN S5 < gN S5 + 1 from by omega)⟩ ?_
          refine zv_c1 ht9 rfl rfl (zv_c1 ht9 rfl rfl (zv_c1 ht9 rfl rfl ?_))
          have C11 : ∀ (pst10 : Outcome × zS → Prop), (pst10 (.returned none, sI (sP (sNew S5 15 0 (zslots 15)) 172 (gN S5) (some 0)) 144 (gN S5) (Int32.ofNat p))) → zCall ((d - 1) - 1) 306 [.ref (gN S5), .ref 0, .int (Int32.ofNat p)] (sP (sNew S5 15 0 (zslots 15)) 172 (gN S5) (some 0)) pst10 := by
            intro pst10 k17
            have ht12 : ztab 306 = ztb306 := rfl
            show zEv ((d - 1) - 1) 306 0 [.ref (gN S5), .ref 0, .int (Int32.ofNat p)] [] (sP (sNew S5 15 0 (zslots 15)) 172 (gN S5) (some 0)) pst10
            refine zv_c1 ht12 rfl rfl (zv_c1 ht12 rfl rfl ?_)
            refine zv_ci (S' := sP (sNew S5 15 0 (zslots 15)) 172 (gN S5) (some 0)) ht12 rfl rfl (zk5 (ztyp_new_at (S := S5) (t := 15) (n := 0) (s := zslots 15) (show 1639 ≤ gN S5 from by omega)) rfl (show gN S5 < gN S5 + 1 from by omega) rfl gP_sP_at) ?_
            refine zv_c1 ht12 rfl rfl (zv_c1 ht12 rfl rfl (zv_c1 ht12 rfl rfl ?_))
            have C14 : ∀ (pst13 : Outcome × zS → Prop), (pst13 (.returned none, sI (sP (sNew S5 15 0 (zslots 15)) 172 (gN S5) (some 0)) 144 (gN S5) (Int32.ofNat p))) → zCall (((d - 1) - 1) - 1) 280 [.ref (gN S5), .ref 0, .int (Int32.ofNat p)] (sP (sNew S5 15 0 (zslots 15)) 172 (gN S5) (some 0)) pst13 := by
              intro pst13 k16
              have ht15 : ztab 280 = ztb280 := rfl
              show zEv (((d - 1) - 1) - 1) 280 0 [.ref (gN S5), .ref 0, .int (Int32.ofNat p)] [] (sP (sNew S5 15 0 (zslots 15)) 172 (gN S5) (some 0)) pst13
              refine zv_c1 ht15 rfl rfl (zv_c1 ht15 rfl rfl ?_)
              refine zv_ci (S' := sP (sNew S5 15 0 (zslots 15)) 172 (gN S5) (some 0)) ht15 rfl rfl (zk5 (ztyp_new_at (S := S5) (t := 15) (n := 0) (s := zslots 15) (show 1639 ≤ gN S5 from by omega)) rfl (show gN S5 < gN S5 + 1 from by omega) rfl gP_sP_at) ?_
              refine zv_c1 ht15 rfl rfl (zv_c1 ht15 rfl rfl (zv_c1 ht15 rfl rfl (zv_c1 ht15 rfl rfl ?_)))
              refine zv_ci (S' := sI (sP (sNew S5 15 0 (zslots 15)) 172 (gN S5) (some 0)) 144 (gN S5) (Int32.ofNat p)) ht15 rfl rfl ⟨(zhas_of (ztyp_new_at (S := S5) (t := 15) (n := 0) (s := zslots 15) (show 1639 ≤ gN S5 from by omega)) rfl), (show gN S5 < gN S5 + 1 from by omega)⟩ ?_
              exact zv_rt ht15 rfl rfl rfl rfl k16
            refine zv_cl ht12 rfl rfl rfl rfl (by omega) (Nat.le_of_ble_eq_true rfl) (C14 _ ?_)
            show zEv ((d - 1) - 1) 306 11 [.ref (gN S5), .ref 0, .int (Int32.ofNat p)] [] (sI (sP (sNew S5 15 0 (zslots 15)) 172 (gN S5) (some 0)) 144 (gN S5) (Int32.ofNat p)) pst10
            exact zv_rt ht12 rfl rfl rfl rfl k17
          refine zv_cl ht9 rfl rfl rfl rfl (by omega) (Nat.le_of_ble_eq_true rfl) (C11 _ ?_)
          show zEv (d - 1) 327 11 [.ref (gN S5), .ref 0, .int (Int32.ofNat p), .int 3, .int (Int32.ofNat v3)] [] (sI (sP (sNew S5 15 0 (zslots 15)) 172 (gN S5) (some 0)) 144 (gN S5) (Int32.ofNat p)) pst7
          refine zv_c1 ht9 rfl rfl (zv_c1 ht9 rfl rfl ?_)
          refine zv_ci (S' := sI (sI (sP (sNew S5 15 0 (zslots 15)) 172 (gN S5) (some 0)) 144 (gN S5) (Int32.ofNat p)) 170 (gN S5) 3) ht9 rfl rfl ⟨(zhas_of (ztyp_new_at (S := S5) (t := 15) (n := 0) (s := zslots 15) (show 1639 ≤ gN S5 from by omega)) rfl), (show gN S5 < gN S5 + 1 from by omega)⟩ ?_
          refine zv_c1 ht9 rfl rfl (zv_c1 ht9 rfl rfl ?_)
          refine zv_ci (S' := sI (sI (sI (sP (sNew S5 15 0 (zslots 15)) 172 (gN S5) (some 0)) 144 (gN S5) (Int32.ofNat p)) 170 (gN S5) 3) 171 (gN S5) (Int32.ofNat v3)) ht9 rfl rfl ⟨(zhas_of (ztyp_new_at (S := S5) (t := 15) (n := 0) (s := zslots 15) (show 1639 ≤ gN S5 from by omega)) rfl), (show gN S5 < gN S5 + 1 from by omega)⟩ ?_
          exact zv_rt ht9 rfl rfl rfl rfl k18
        refine zv_cl ht rfl rfl rfl rfl (by omega) (Nat.le_of_ble_eq_true rfl) (C8 _ ?_)
        show zEv d 257 32 [.ref r, .int (Int32.ofNat p), .int 3, .int (Int32.ofNat v3)] [.ref (gN S5), .ref r] (sI (sI (sI (sP (sNew S5 15 0 (zslots 15)) 172 (gN S5) (some 0)) 144 (gN S5) (Int32.ofNat p)) 170 (gN S5) 3) 171 (gN S5) (Int32.ofNat v3)) post
        have C20 : ∀ (pst19 : Outcome × zS → Prop), (∀ S22 : zS, (zFin true S22) → (pJ (tN 9 v3 [] p []) = .ok (tN 9 v3 [] p [])) → (xJd (sI (sI (sI (sP (sNew S5 15 0 (zslots 15)) 172 (gN S5) (some 0)) 144 (gN S5) (Int32.ofNat p)) 170 (gN S5) 3) 171 (gN S5) (Int32.ofNat v3)) (gN S5) S22) → (xTl (gN S) S22 (tN 9 v3 [] p []) (gN S5)) → (xR tp sz S22 r (at0 + 3) nd) → (gN S22 = gN S5 + 1 ∧ gZ S22 = gZ S5 + 20) → pst19 (.returned (some (.ref (gN S5))), S22)) → (∀ S23 : zS, ∀ q23 : Nat, (zFin true S23) → (pJ (tN 9 v3 [] p []) = .error (3, p)) → (xFn (sI (sI (sI (sP (sNew S5 15 0 (zslots 15)) 172 (gN S5) (some 0)) 144 (gN S5) (Int32.ofNat p)) 170 (gN S5) 3) 171 (gN S5) (Int32.ofNat v3)) (gN S5) S23) → (xFl S23 q23 3 p) → (gN S23 = gN S5 + 1 + 1 ∧ gZ S23 ≤ gZ S5 + 20 + 3) → pst19 (.threw q23, S23)) → zCall (d - 1) 253 [.ref r, .ref (gN S5)] (sI (sI (sI (sP (sNew S5 15 0 (zslots 15)) 172 (gN S5) (some 0)) 144 (gN S5) (Int32.ofNat p)) 170 (gN S5) 3) 171 (gN S5) (Int32.ofNat v3)) pst19 := by
          intro pst19 k24 k25
          have ht21 : ztab 253 = ztb253 := rfl
          show zEv (d - 1) 253 0 [.ref r, .ref (gN S5)] [] (sI (sI (sI (sP (sNew S5 15 0 (zslots 15)) 172 (gN S5) (some 0)) 144 (gN S5) (Int32.ofNat p)) 170 (gN S5) 3) 171 (gN S5) (Int32.ofNat v3)) pst19
          refine zv_c1 ht21 rfl rfl ?_
          refine zv_cl ht21 rfl rfl rfl (zv_tgm (ztyp_new_at (S := S5) (t := 15) (n := 0) (s := zslots 15) (show 1639 ≤ gN S5 from by omega)) rfl) (by omega) (Nat.le_of_ble_eq_true rfl) (x_judgeR (S := sI (sI (sI (sP (sNew S5 15 0 (zslots 15)) 172 (gN S5) (some 0)) 144 (gN S5) (Int32.ofNat p)) 170 (gN S5) 3) 171 (gN S5) (Int32.ofNat v3)) (tp := tp) (sz := sz) (r := r) (a := gN S5) (k := 9) (v := v3) (p := p) (ks := []) (js := []) (cs := []) (g := gN S5 + 1) (lo := gN S) (zFin_sP (zFin_new hF5) rfl) (by omega) (by omega) (by omega) (by omega) (by omega) rfl (xOwn_I (by decide) (ztyp_new_at (S := S5) (t := 15) (n := 0) (s := zslots 15) (show 1639 ≤ gN S5 from by omega)) (gI_sI_at) (gI_sI_at) (gP_sP_at) (by omega)) rfl (by decide) (by omega) (gI_sI_at) (gI_new_at (S := S5) (t := 15) (n := 0) (s := zslots 15)) (gI_new_at (S := S5) (t := 15) (n := 0) (s := zslots 15)) (xR.ke (Fs := []) p5 (zKE.tr (zKE.tr (zKE.tr (zKE.tr (zKE.tr zKE.rf (zKE_new (show gN S5 ≤ gN S5 ∧ gN S5 < zLB from ⟨by omega, by have hLB : zLB = 4294967296 := rfl; omega⟩))) (zKE_sP (Or.inr (Or.inr ⟨by omega, by have hLB : zLB = 4294967296 := rfl; omega⟩)))) (zKE_sI (Or.inr (Or.inr ⟨by omega, by have hLB : zLB = 4294967296 := rfl; omega⟩)))) (zKE_sI (Or.inr (Or.inr ⟨by omega, by have hLB : zLB = 4294967296 := rfl; omega⟩)))) (zKE_sI (Or.inr (Or.inr ⟨by omega, by have hLB : zLB = 4294967296 := rfl; omega⟩)))) (by omega) (by decide)) (by omega) (fun S22 hF22 e22 j22 t22 p22 g22 => ?_) (fun S23 q23 hF23 e23 k23 x23 g23 => ?_))
          · show zEv (d - 1) 253 4 [.ref r, .ref (gN S5)] [] S22 pst19
            refine zv_c1 ht21 rfl rfl ?_
            exact zv_rt ht21 rfl rfl rfl rfl (k24 S22 hF22 e22 j22 t22 p22 g22)
          · exact (k25 S23 q23 hF23 e23 k23 x23 g23)
        refine zv_cl ht rfl rfl rfl (zv_tgv (Eq.trans (ztyp_new (S := S5) (t := 15) (n := 0) (s := zslots 15) (show r ≠ gN S5 from by omega)) p5.1.2.2.2.1) rfl) (by omega) (Nat.le_of_ble_eq_true rfl) (C20 _ (fun S22 hF22 e22 j22 t22 p22 g22 => ?_) (fun S23 q23 hF23 e23 k23 x23 g23 => ?_))
        · show zEv d 257 35 [.ref r, .int (Int32.ofNat p), .int 3, .int (Int32.ofNat v3)] [.ref (gN S5)] S22 post
          exact zv_rt ht rfl rfl rfl rfl (h1 S1 hF1 e1 k1 p1 g1 b1 S3 v3 hF3 e3 k3 p3 g3 b3 c3 S5 hF5 e5 k5 p5 g5 b5 S22 hF22 e22 j22 t22 p22 g22)
        · exact (h2 S1 hF1 e1 k1 p1 g1 b1 S3 v3 hF3 e3 k3 p3 g3 b3 c3 S5 hF5 e5 k5 p5 g5 b5 S23 q23 hF23 e23 k23 x23 g23)
      · exact (h3 S1 hF1 e1 k1 p1 g1 b1 S3 v3 hF3 e3 k3 p3 g3 b3 c3 S6 q6 hF6 e6 k6 x6 g6)
    · exact (h4 S1 hF1 e1 k1 p1 g1 b1 S4 q4 hF4 e4 k4 x4 g4)
  · exact (h5 S2 q2 hF2 e2 k2 x2 g2)


