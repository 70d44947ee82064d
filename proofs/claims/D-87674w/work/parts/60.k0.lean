set_option maxRecDepth 100000
/-! ===== loops over rows; what is kept ===== -/
/-- n cells of an array from b on -/
def sAr (S : zS) (a b n : Nat) (f : Nat → Int32) : zS := (S.1, S.2.1, (fun c i => if c = a then (if b ≤ i ∧ i < b + n then f (i - b) else S.2.2.1 c i) else S.2.2.1 c i), S.2.2.2)
theorem gA_sAr {S : zS} {a b n i : Nat} {f : Nat → Int32} : gA (sAr S a b n f) a i = if b ≤ i ∧ i < b + n then f (i - b) else gA S a i := if_pos rfl
theorem gA_sAr_in {S : zS} {a b n k : Nat} {f : Nat → Int32} (h : k < n) : gA (sAr S a b n f) a (b + k) = f k := by
  rw [gA_sAr, if_pos ⟨by omega, by omega⟩]
  congr 1
  omega
theorem gA_sAr_out {S : zS} {a b n i : Nat} {f : Nat → Int32} (h : i < b ∨ b + n ≤ i) : gA (sAr S a b n f) a i = gA S a i := by rw [gA_sAr, if_neg (by omega)]
theorem gA_sAr_ne {S : zS} {a b n c : Nat} {f : Nat → Int32} (h : c ≠ a) : gA (sAr S a b n f) c = gA S c := by funext i; exact if_neg h
theorem sAr_zero {S : zS} {a b : Nat} {f : Nat → Int32} : sAr S a b 0 f = S := by
  have e : (fun c i => if c = a then (if b ≤ i ∧ i < b + 0 then f (i - b) else S.2.2.1 c i) else S.2.2.1 c i) = S.2.2.1 := by
    funext c i
    by_cases h : c = a
    · rw [if_pos h, if_neg (by omega)]
    · rw [if_neg h]
  unfold sAr
  rw [e]
theorem sAr_succ {S : zS} {a b k : Nat} {f : Nat → Int32} : sA (sAr S a b k f) a (b + k) (f k) = sAr S a b (k + 1) f := by
  have e : zu (sAr S a b k f).2.2.1 a (b + k) (f k) = (sAr S a b (k + 1) f).2.2.1 := by
    funext c i
    unfold zu sAr
    by_cases h : c = a
    · subst h
      simp only [if_true]
      by_cases h1 : i = b + k
      · subst h1
        rw [if_pos rfl, if_pos ⟨by omega, by omega⟩]
        congr 1
        omega
      · rw [if_neg h1]
        by_cases h2 : b ≤ i ∧ i < b + k
        · rw [if_pos h2, if_pos ⟨by omega, by omega⟩]
        · rw [if_neg h2, if_neg (by omega)]
    · simp only [if_neg h]
  show (S.1, S.2.1, zu (sAr S a b k f).2.2.1 a (b + k) (f k), S.2.2.2) = _
  rw [e]
  rfl
/-- a loop that fills a row -/
theorem zFill {d me pc : Nat} {post : Outcome × zS → Prop} {S : zS} (a b n : Nat) (f : Nat → Int32) (L : Nat → List Value)
    (step : ∀ k, k < n → zEv d me pc (L (k + 1)) [] (sA (sAr S a b k f) a (b + k) (f k)) post → zEv d me pc (L k) [] (sAr S a b k f) post)
    (last : zEv d me pc (L n) [] (sAr S a b n f) post) : zEv d me pc (L 0) [] S post := by
  have key : ∀ m k, k + m = n → zEv d me pc (L k) [] (sAr S a b k f) post := by
    intro m
    induction m with
    | zero => intro k hk; rw [Nat.add_zero] at hk; subst hk; exact last
    | succ m ih =>
      intro k hk
      refine step k (by omega) ?_
      rw [sAr_succ]
      exact ih (k + 1) (by omega)
  have := key n 0 (by omega)
  rwa [sAr_zero] at this
/-- a loop that only looks: it goes on while c holds -/
theorem zLook {d me pc : Nat} {post : Outcome × zS → Prop} {S : zS} (n : Nat) (L : Nat → List Value)
    (step : ∀ k, k < n → zEv d me pc (L (k + 1)) [] S post → zEv d me pc (L k) [] S post)
    (last : zEv d me pc (L n) [] S post) : zEv d me pc (L 0) [] S post := by
  have key : ∀ m k, k + m = n → zEv d me pc (L k) [] S post := by
    intro m
    induction m with
    | zero => intro k hk; rw [Nat.add_zero] at hk; subst hk; exact last
    | succ m ih => intro k hk; exact step k (by omega) (ih (k + 1) (by omega))
  exact key n 0 (by omega)
/-- what a run of the house keeps: of the objects below N (and of the texts of the classes) all but those of A, and all but the fields Fs -/
def zKE (N : Nat) (A Fs : List Nat) (S S' : zS) : Prop := (gN S ≤ gN S' ∧ gZ S ≤ gZ S') ∧ ∀ a, (a < N ∨ zLB ≤ a) → gT S' a = gT S a ∧ (a ∉ A → (∀ f, f ∉ Fs → gI S' f a = gI S f a ∧ gP S' f a = gP S f a) ∧ gA S' a = gA S a ∧ gL S' a = gL S a ∧ gQ S' a = gQ S a)
theorem zKE.rf {N : Nat} {A Fs : List Nat} {S : zS} : zKE N A Fs S S := ⟨⟨Nat.le_refl _, Nat.le_refl _⟩, fun _ _ => ⟨rfl, fun _ => ⟨fun _ _ => ⟨rfl, rfl⟩, rfl, rfl, rfl⟩⟩⟩
theorem zKE.tr {N : Nat} {A Fs : List Nat} {S S' S'' : zS} (h : zKE N A Fs S S') (k : zKE N A Fs S' S'') : zKE N A Fs S S'' :=
  ⟨⟨Nat.le_trans h.1.1 k.1.1, Nat.le_trans h.1.2 k.1.2⟩, fun a ha => ⟨(k.2 a ha).1.trans (h.2 a ha).1, fun hA => by
    obtain ⟨h1, h2, h3, h4⟩ := (h.2 a ha).2 hA
    obtain ⟨k1, k2, k3, k4⟩ := (k.2 a ha).2 hA
    exact ⟨fun f hf => ⟨(k1 f hf).1.trans (h1 f hf).1, (k1 f hf).2.trans (h1 f hf).2⟩, k2.trans h2, k3.trans h3, k4.trans h4⟩⟩⟩
theorem zKE.w {N N' : Nat} {A Fs A' Fs' : List Nat} {S S' : zS} (h : zKE N A Fs S S') (hN : N' ≤ N) (hA : ∀ a, a ∈ A → a ∈ A') (hF : ∀ f, f ∈ Fs → f ∈ Fs') : zKE N' A' Fs' S S' :=
  ⟨h.1, fun a ha => ⟨(h.2 a (by omega)).1, fun hn => by
    obtain ⟨h1, h2⟩ := (h.2 a (by omega)).2 (fun x => hn (hA a x))
    exact ⟨fun f hf => h1 f (fun x => hf (hF f x)), h2⟩⟩⟩
theorem zKE.I {N : Nat} {A Fs : List Nat} {S S' : zS} (h : zKE N A Fs S S') {a f : Nat} (ha : a < N ∨ zLB ≤ a) (hA : a ∉ A) (hf : f ∉ Fs) : gI S' f a = gI S f a := (((h.2 a ha).2 hA).1 f hf).1
theorem zKE.P {N : Nat} {A Fs : List Nat} {S S' : zS} (h : zKE N A Fs S S') {a f : Nat} (ha : a < N ∨ zLB ≤ a) (hA : a ∉ A) (hf : f ∉ Fs) : gP S' f a = gP S f a := (((h.2 a ha).2 hA).1 f hf).2
theorem zKE.A {N : Nat} {A Fs : List Nat} {S S' : zS} (h : zKE N A Fs S S') {a : Nat} (ha : a < N ∨ zLB ≤ a) (hA : a ∉ A) : gA S' a = gA S a := ((h.2 a ha).2 hA).2.1
theorem zKE.L {N : Nat} {A Fs : List Nat} {S S' : zS} (h : zKE N A Fs S S') {a : Nat} (ha : a < N ∨ zLB ≤ a) (hA : a ∉ A) : gL S' a = gL S a := ((h.2 a ha).2 hA).2.2.1
theorem zKE.Q {N : Nat} {A Fs : List Nat} {S S' : zS} (h : zKE N A Fs S S') {a : Nat} (ha : a < N ∨ zLB ≤ a) (hA : a ∉ A) : gQ S' a = gQ S a := ((h.2 a ha).2 hA).2.2.2
theorem zKE.T {N : Nat} {A Fs : List Nat} {S S' : zS} (h : zKE N A Fs S S') {a : Nat} (ha : a < N ∨ zLB ≤ a) : ztyp S' a = ztyp S a := by unfold ztyp; rw [(h.2 a ha).1]
theorem zKE.Len {N : Nat} {A Fs : List Nat} {S S' : zS} (h : zKE N A Fs S S') {a : Nat} (ha : a < N ∨ zLB ≤ a) : zlen S' a = zlen S a := by unfold zlen; rw [(h.2 a ha).1]
/-! single steps -/
theorem zKE_sI {N : Nat} {A Fs : List Nat} {S : zS} {f a : Nat} {v : Int32} (h : f ∈ Fs ∨ a ∈ A ∨ (N ≤ a ∧ a < zLB)) : zKE N A Fs S (sI S f a v) := by
  refine ⟨⟨Nat.le_refl _, Nat.le_refl _⟩, fun c hc => ⟨rfl, fun hA => ⟨fun g hg => ⟨?_, rfl⟩, rfl, rfl, rfl⟩⟩⟩
  by_cases e : g = f
  · subst e
    refine gI_sI_ne ?_
    rintro rfl
    rcases h with h | h | h
    · exact hg h
    · exact hA h
    · omega
  · exact zu_ne e
theorem zKE_sP {N : Nat} {A Fs : List Nat} {S : zS} {f a : Nat} {v : Option Nat} (h : f ∈ Fs ∨ a ∈ A ∨ (N ≤ a ∧ a < zLB)) : zKE N A Fs S (sP S f a v) := by
  refine ⟨⟨Nat.le_refl _, Nat.le_refl _⟩, fun c hc => ⟨rfl, fun hA => ⟨fun g hg => ⟨rfl, ?_⟩, rfl, rfl, rfl⟩⟩⟩
  by_cases e : g = f
  · subst e
    refine gP_sP_ne ?_
    rintro rfl
    rcases h with h | h | h
    · exact hg h
    · exact hA h
    · omega
  · exact zu_ne e
theorem zKE_sA {N : Nat} {A Fs : List Nat} {S : zS} {a j : Nat} {v : Int32} (h : a ∈ A ∨ (N ≤ a ∧ a < zLB)) : zKE N A Fs S (sA S a j v) := by
  refine ⟨⟨Nat.le_refl _, Nat.le_refl _⟩, fun c hc => ⟨rfl, fun hA => ⟨fun g hg => ⟨rfl, rfl⟩, ?_, rfl, rfl⟩⟩⟩
  refine zu_ne' ?_
  rintro rfl
  rcases h with h | h
  · exact hA h
  · omega
theorem zKE_sAr {N : Nat} {A Fs : List Nat} {S : zS} {a b n : Nat} {f : Nat → Int32} (h : a ∈ A ∨ (N ≤ a ∧ a < zLB)) : zKE N A Fs S (sAr S a b n f) := by
  refine ⟨⟨Nat.le_refl _, Nat.le_refl _⟩, fun c hc => ⟨rfl, fun hA => ⟨fun g hg => ⟨rfl, rfl⟩, ?_, rfl, rfl⟩⟩⟩
  refine gA_sAr_ne ?_
  rintro rfl
  rcases h with h | h
  · exact hA h
  · omega
theorem zKE_sL {N : Nat} {A Fs : List Nat} {S : zS} {a j : Nat} {v : Int64} (h : a ∈ A ∨ (N ≤ a ∧ a < zLB)) : zKE N A Fs S (sL S a j v) := by
  refine ⟨⟨Nat.le_refl _, Nat.le_refl _⟩, fun c hc => ⟨rfl, fun hA => ⟨fun g hg => ⟨rfl, rfl⟩, rfl, ?_, rfl⟩⟩⟩
  refine zu_ne' ?_
  rintro rfl
  rcases h with h | h
  · exact hA h
  · omega
theorem zKE_sQ {N : Nat} {A Fs : List Nat} {S : zS} {a j : Nat} {v : Option Nat} (h : a ∈ A ∨ (N ≤ a ∧ a < zLB)) : zKE N A Fs S (sQ S a j v) := by
  refine ⟨⟨Nat.le_refl _, Nat.le_refl _⟩, fun c hc => ⟨rfl, fun hA => ⟨fun g hg => ⟨rfl, rfl⟩, rfl, rfl, ?_⟩⟩⟩
  refine zu_ne' ?_
  rintro rfl
  rcases h with h | h
  · exact hA h
  · omega
theorem zKE_new {N : Nat} {A Fs : List Nat} {S : zS} {t n s : Nat} (h : N ≤ gN S ∧ gN S < zLB) : zKE N A Fs S (sNew S t n s) := by
  refine ⟨⟨Nat.le_succ _, Nat.le_add_right _ _⟩, fun c hc => ?_⟩
  have e : c ≠ gN S := by omega
  exact ⟨gT_new e, fun _ => ⟨fun g _ => ⟨gI_new e, gP_new e⟩, funext fun _ => gA_new e, funext fun _ => gL_new e, funext fun _ => gQ_new e⟩⟩
theorem zKE_sT {N : Nat} {A Fs : List Nat} {S : zS} {a t n : Nat} (h : N ≤ a ∧ a < zLB) : zKE N A Fs S (sT S a t n) := by
  refine ⟨⟨Nat.le_refl _, Nat.le_refl _⟩, fun c hc => ?_⟩
  exact ⟨if_neg (by omega), fun _ => ⟨fun g _ => ⟨rfl, rfl⟩, rfl, rfl, rfl⟩⟩
/-- what a run of the twin keeps: all but these number fields of it and these rows of numbers -/
def zTK (fs as : List Nat) (S S' : zS) : Prop := (S'.2.1 = S.2.1 ∧ S'.2.2.2 = S.2.2.2) ∧ (∀ f a, (f ∈ fs → a ≠ 1592) → gI S' f a = gI S f a) ∧ ∀ a, a ∉ as → gA S' a = gA S a
theorem zTK.rf {fs as : List Nat} {S : zS} : zTK fs as S S := ⟨⟨rfl, rfl⟩, fun _ _ _ => rfl, fun _ _ => rfl⟩
theorem zTK.tr {fs as : List Nat} {S S' S'' : zS} (h : zTK fs as S S') (k : zTK fs as S' S'') : zTK fs as S S'' :=
  ⟨⟨k.1.1.trans h.1.1, k.1.2.trans h.1.2⟩, fun f a hf => (k.2.1 f a hf).trans (h.2.1 f a hf), fun a ha => (k.2.2 a ha).trans (h.2.2 a ha)⟩
theorem zTK.w {fs as fs' as' : List Nat} {S S' : zS} (h : zTK fs as S S') (h1 : ∀ f, f ∈ fs → f ∈ fs') (h2 : ∀ a, a ∈ as → a ∈ as') : zTK fs' as' S S' :=
  ⟨h.1, fun f a hf => h.2.1 f a (fun x => hf (h1 f x)), fun a ha => h.2.2 a (fun x => ha (h2 a x))⟩
theorem zTK_sI {fs as : List Nat} {S : zS} {f : Nat} {v : Int32} (h : f ∈ fs) : zTK fs as S (sI S f 1592 v) := by
  refine ⟨⟨rfl, rfl⟩, fun g a hg => ?_, fun _ _ => rfl⟩
  by_cases e : g = f
  · subst e
    exact gI_sI_ne (hg h)
  · exact zu_ne e
theorem zTK_sA {fs as : List Nat} {S : zS} {a j : Nat} {v : Int32} (h : a ∈ as) : zTK fs as S (sA S a j v) := ⟨⟨rfl, rfl⟩, fun _ _ _ => rfl, fun b hb => zu_ne' (fun e => hb (e ▸ h))⟩
theorem zTK_sAr {fs as : List Nat} {S : zS} {a b n : Nat} {f : Nat → Int32} (h : a ∈ as) : zTK fs as S (sAr S a b n f) := ⟨⟨rfl, rfl⟩, fun _ _ _ => rfl, fun c hc => gA_sAr_ne (fun e => hc (e ▸ h))⟩
theorem zTK.fin {B : Bool} {fs as : List Nat} {S S' : zS} (h : zTK fs as S S') (hF : zFin B S) : zFin B S' :=
  hF.of (fun f a _ => by show S'.2.1 f a = S.2.1 f a; rw [h.1.1]) (by show S.2.2.2.2.2.2.1 ≤ S'.2.2.2.2.2.2.1; rw [h.1.2]; exact Nat.le_refl _)
theorem zTK.A {fs as : List Nat} {S S' : zS} (h : zTK fs as S S') {a j : Nat} (ha : a ∉ as) : gA S' a j = gA S a j := by rw [h.2.2 a ha]
theorem zTK.I {fs as : List Nat} {S S' : zS} (h : zTK fs as S S') {f : Nat} (hf : f ∉ fs) (a : Nat) : gI S' f a = gI S f a := h.2.1 f a (fun x => absurd x hf)
theorem zTK.N {fs as : List Nat} {S S' : zS} (h : zTK fs as S S') : gN S' = gN S := by show S'.2.2.2.2.2.2.1 = S.2.2.2.2.2.2.1; rw [h.1.2]
theorem zTK.Z {fs as : List Nat} {S S' : zS} (h : zTK fs as S S') : gZ S' = gZ S := by show S'.2.2.2.2.2.2.2 = S.2.2.2.2.2.2.2; rw [h.1.2]
theorem zTK.keep {fs as : List Nat} {S S' : zS} (h : zTK fs as S S') (N : Nat) {A Fs : List Nat} (h1 : ∀ a, a ∈ as → a ∈ A) (h2 : 1592 ∈ A) : zKE N A Fs S S' := by
  have e : S'.2.2.2 = S.2.2.2 := h.1.2
  refine ⟨⟨Nat.le_of_eq h.N.symm, Nat.le_of_eq h.Z.symm⟩, fun a _ => ⟨?_, fun hA => ⟨fun f _ => ⟨h.2.1 f a (fun _ x => hA (x ▸ h2)), ?_⟩, h.2.2 a (fun x => hA (h1 a x)), ?_, ?_⟩⟩⟩
  · show S'.2.2.2.2.2.1 a = S.2.2.2.2.2.1 a; rw [e]
  · show S'.2.1 f a = S.2.1 f a; rw [h.1.1]
  · show S'.2.2.2.1 a = S.2.2.2.1 a; rw [e]
  · show S'.2.2.2.2.1 a = S.2.2.2.2.1 a; rw [e]
/-- calls: the shape of the fixed heap comes for nothing -/
theorem zCall.fin {d me : Nat} {as : List Value} {S : zS} {post : Outcome × zS → Prop} (hF : zFin true S) (h : zCall d me as S (fun x => zFin true x.2 → post x)) : zCall d me as S post := by
  obtain ⟨n, x, h1, h2⟩ := h
  exact ⟨n, x, h1, h2 (zrun_fin _ _ _ _ _ _ _ _ h1 hF)⟩
/-- a loop whose states are known -/
theorem zLoopE {d me pc : Nat} {post : Outcome × zS → Prop} (k0 n : Nat) (st : Nat → zS) (L : Nat → List Value)
    (step : ∀ k, k0 ≤ k → k < n → zEv d me pc (L (k + 1)) [] (st (k + 1)) post → zEv d me pc (L k) [] (st k) post)
    (last : zEv d me pc (L n) [] (st n) post) (hk : k0 ≤ n) : zEv d me pc (L k0) [] (st k0) post := by
  have key : ∀ m k, k0 ≤ k → k + m = n → zEv d me pc (L k) [] (st k) post := by
    intro m
    induction m with
    | zero => intro k _ hk; rw [Nat.add_zero] at hk; subst hk; exact last
    | succ m ih => intro k h0 hk; exact step k h0 (by omega) (ih (k + 1) (by omega) (by omega))
  exact key (n - k0) k0 (Nat.le_refl _) (by omega)
theorem sI_sI {S : zS} {f a : Nat} {v w : Int32} : sI (sI S f a v) f a w = sI S f a w := by
  have e : zu (zu S.1 f a v) f a w = zu S.1 f a w := by
    funext g c
    unfold zu
    by_cases h : g = f
    · by_cases h2 : c = a
      · simp [h, h2]
      · simp [h, h2]
    · simp [h]
  show (zu (zu S.1 f a v) f a w, S.2) = _
  rw [e]
  rfl
theorem sI_self {S : zS} {f a : Nat} {v : Int32} (h : gI S f a = v) : sI S f a v = S := by
  have e : zu S.1 f a v = S.1 := by
    funext g c
    unfold zu
    by_cases h1 : g = f
    · by_cases h2 : c = a
      · rw [if_pos h1, if_pos h2, h1, h2, ← h]; rfl
      · rw [if_pos h1, if_neg h2]
    · rw [if_neg h1]
  show (zu S.1 f a v, S.2) = S
  rw [e]
/-- a row that grows, and its counter -/
theorem sAr_say {S : zS} {a b k F : Nat} {f : Nat → Int32} {u w : Int32} : sI (sA (sI (sAr S a b k f) F 1592 u) a (b + k) (f k)) F 1592 w = sI (sAr S a b (k + 1) f) F 1592 w := by
  have e : sA (sI (sAr S a b k f) F 1592 u) a (b + k) (f k) = sI (sA (sAr S a b k f) a (b + k) (f k)) F 1592 u := rfl
  rw [e, sAr_succ, sI_sI]
/-- a loop that fills a row from its beginning -/
theorem zFill0 {d me pc : Nat} {post : Outcome × zS → Prop} {S : zS} (a n : Nat) (f : Nat → Int32) (L : Nat → List Value)
    (step : ∀ k, k < n → zEv d me pc (L (k + 1)) [] (sA (sAr S a 0 k f) a k (f k)) post → zEv d me pc (L k) [] (sAr S a 0 k f) post)
    (last : zEv d me pc (L n) [] (sAr S a 0 n f) post) : zEv d me pc (L 0) [] S post :=
  zFill a 0 n f L (fun k hk h => step k hk (by rw [Nat.zero_add] at h; exact h)) last
theorem gA_sAr0 {S : zS} {a n k : Nat} {f : Nat → Int32} (h : k < n) : gA (sAr S a 0 n f) a k = f k := by
  have := @gA_sAr_in S a 0 n k f h
  rwa [Nat.zero_add] at this
theorem zTK_sAf {fs as : List Nat} {S : zS} {a : Nat} {f : Nat → Int32} (h : a ∈ as) : zTK fs as S (sAf S a f) := ⟨⟨rfl, rfl⟩, fun _ _ _ => rfl, fun c hc => if_neg (fun (e : c = a) => hc (e ▸ h))⟩

