set_option maxRecDepth 100000
/-! ===== the house judges any node ===== -/
/-- judge, by kind -/
def jme (k : Nat) : Nat := if k < 2 then 333 else if k < 4 then 311 else if k < 6 then 319 else if k < 10 then 326 else if k = 10 then 360 else if k < 17 then 371 else if k = 17 then 348 else if k = 18 then 340 else 293
section X10
variable {d : Nat} {post : Outcome × zS → Prop}
theorem pJ_some {k v p : Nat} {ks : List Nat} {cs : List zNd} {ts : List t3} {t : t3} (h : cs.map ty = ts.map some) (ht : tyN k v ts = some t) : ty (tN k v ks p cs) = some t ∧ pJ (tN k v ks p cs) = .ok (tN k v ks p cs) := by
  have e : ty (tN k v ks p cs) = some t := (ty_of (x := tN k v ks p cs) (by rw [tN_Cs]; exact h)).trans ht
  exact ⟨e, by unfold pJ; rw [e]⟩
theorem pJ_none {k v p : Nat} {ks : List Nat} {cs : List zNd} {ts : List t3} (h : cs.map ty = ts.map some) (ht : tyN k v ts = none) : pJ (tN k v ks p cs) = .error (3, p) := by
  have e : ty (tN k v ks p cs) = none := (ty_of (x := tN k v ks p cs) (by rw [tN_Cs]; exact h)).trans ht
  unfold pJ
  rw [e]
  rfl
theorem x_judge {S : zS} (hF : zFin true S) (hd : 2 ≤ d) {P : Nat → Prop} {a k v p : Nat} {ks js : List Nat} {cs : List zNd} (ha0 : 1639 ≤ a) (ha : a < gN S) (hN2 : gN S < 1900000) (hO : xOwn (fun j => P j ∨ j = a) S a k v ks js) (hP : ∀ j, P j → j < gN S ∧ j ≠ a) (hcs : xTs P S cs js) (hk : k < 26) (hv0 : (10 ≤ k ∧ k < 17) ∨ 19 ≤ k → v = 0) (hpl : gI S 144 a = Int32.ofNat p) (hm0 : gI S 156 a = 0) (ht0 : gI S 146 a = 0)
    (h1 : ∀ S', zFin true S' → pJ (tN k v ks p cs) = .ok (tN k v ks p cs) → xJd S a S' → xT (fun j => P j ∨ j = a) S' (tN k v ks p cs) a → post (.returned none, S'))
    (h2 : ∀ S' q, zFin true S' → pJ (tN k v ks p cs) = .error (3, p) → xFn S a S' → xFl S' q 3 p → gN S + 1 = gN S' ∧ gZ S' ≤ gZ S + 3 → post (.threw q, S')) : zCall d (jme k) [.ref a] S post := by
  obtain ⟨ts, ht, hch⟩ := hcs.ch hP
  have hlen := hch.len
  have ok : ∀ t S', zFin true S' → tyN k v ts = some t → xJd S a S' → xTy S' a t → post (.returned none, S') := by
    intro t S' f1 e1 j1 y1
    obtain ⟨q1, q2⟩ := pJ_some (p := p) (ks := ks) ht e1
    refine h1 S' f1 q2 j1 (xT_iff.mpr ⟨js, Or.inr rfl, ?_, ⟨t, q1, y1⟩, ?_⟩)
    · rw [tN_K, tN_V, tN_Ks]; exact hO.jd j1
    · rw [tN_Cs]; exact hcs.em (xEq.jd j1 (fun j hj => (hP j hj).2)) (fun j hj => Or.inl hj)
  have er : tyN k v ts = none → ∀ S' q, zFin true S' → xFn S a S' → xFl S' q 3 p → gN S + 1 = gN S' ∧ gZ S' ≤ gZ S + 3 → post (.threw q, S') := fun e1 S' q f1 k1 x1 g1 => h2 S' q f1 (pJ_none ht e1) k1 x1 g1
  have hO' := hO
  unfold xOwn at hO'
  unfold jme
  by_cases c : k < 2
  · rw [if_pos c] at hO' ⊢
    obtain ⟨o1, o2, rfl⟩ := hO'
    have : ts = [] := List.length_eq_zero_iff.mp hlen.symm
    subst this
    have : k = 0 ∨ k = 1 := by omega
    rcases this with rfl | rfl
    · exact xj_B0 (v := v) hF hd ha0 ha o1 o2 hm0 ht0 ok
    · exact xj_B1 (v := v) hF hd ha0 ha o1 o2 hm0 ht0 ok
  rw [if_neg c] at hO' ⊢
  by_cases c : k < 4
  · rw [if_pos c] at hO' ⊢
    obtain ⟨o1, o2, o3, o4, o5, rfl⟩ := hO'
    have : ts = [] := List.length_eq_zero_iff.mp hlen.symm
    subst this
    have : k = 2 ∨ k = 3 := by omega
    rcases this with rfl | rfl
    · exact xj_K2 (v := v) hF hd ha0 ha o1 o3 hm0 ht0 ok
    · exact xj_K3 (v := v) hF hd ha0 ha o1 o3 hm0 ht0 ok
  rw [if_neg c] at hO' ⊢
  by_cases c : k < 6
  · rw [if_pos c] at hO' ⊢
    obtain ⟨o1, o2, o3, o4, o5, rfl⟩ := hO'
    have : ts = [] := List.length_eq_zero_iff.mp hlen.symm
    subst this
    have : k = 4 ∨ k = 5 := by omega
    rcases this with rfl | rfl
    · exact xj_T4 (v := v) hF hd ha0 ha o1 o5.2 o3 o2 hm0 ht0 ok
    · exact xj_T5 (v := v) hF hd ha0 ha o1 o5.2 o3 o2 hm0 ht0 ok
  rw [if_neg c] at hO' ⊢
  by_cases c : k < 10
  · rw [if_pos c] at hO' ⊢
    obtain ⟨o1, o2, o3, o4, o5, rfl⟩ := hO'
    have : ts = [] := List.length_eq_zero_iff.mp hlen.symm
    subst this
    have : k = 6 ∨ k = 7 ∨ k = 8 ∨ k = 9 := by omega
    rcases this with rfl | rfl | rfl | rfl
    · exact xj_I6 (v := v) hF hd ha0 ha o1 hm0 ht0 ok
    · exact xj_I7 (v := v) hF hd ha0 ha o1 hm0 ht0 ok
    · exact xj_I8 (v := v) hF hd ha0 ha o1 hm0 ht0 ok
    · exact xj_I9 (v := v) hF hd ha0 ha o1 hm0 ht0 ok
  rw [if_neg c] at hO' ⊢
  by_cases c : k = 10
  · rw [if_pos c] at hO' ⊢
    subst c
    obtain ⟨o1, x, y, w, rfl, o2, o3, o4⟩ := hO'
    have hv : v = 0 := hv0 (Or.inl (by omega))
    subst hv
    obtain ⟨⟨p1, a1, l1⟩, ⟨p2, a2, l2⟩, ⟨p3, a3, l3⟩, rfl⟩ : ∃ a b c, ts = [a, b, c] := len3 hlen.symm
    obtain ⟨⟨⟨x1, x2⟩, x3, x4, x5⟩, ⟨⟨y1, y2⟩, y3, y4, y5⟩, ⟨⟨w1, w2⟩, w3, w4, w5⟩, -⟩ := hch
    exact xj_A hF hd ha0 ha x1 x2 x3 y1 y2 y3 w1 w2 w3 hN2 o1 o2 o3 o4 hpl x4 y4 w4 hm0 ht0 x5 y5 w5 ok er
  rw [if_neg c] at hO' ⊢
  by_cases c2 : k < 17
  · rw [if_pos c2] at hO' ⊢
    obtain ⟨o1, o0, x, y, rfl, o2, o3⟩ := hO'
    have hv : v = 0 := hv0 (Or.inl (by omega))
    subst hv
    obtain ⟨⟨p1, a1, l1⟩, ⟨p2, a2, l2⟩, rfl⟩ : ∃ a b, ts = [a, b] := len2 hlen.symm
    obtain ⟨⟨⟨x1, x2⟩, x3, x4, x5⟩, ⟨⟨y1, y2⟩, y3, y4, y5⟩, -⟩ := hch
    have : k = 11 ∨ k = 12 ∨ k = 13 ∨ k = 14 ∨ k = 15 ∨ k = 16 := by omega
    rcases this with rfl | rfl | rfl | rfl | rfl | rfl
    · exact xj_P11 hF hd ha0 ha x1 x2 x3 y1 y2 y3 hN2 o1 o0 o2 o3 hpl x4 y4 hm0 ht0 x5 y5 ok er
    · exact xj_P12 hF hd ha0 ha x1 x2 x3 y1 y2 y3 hN2 o1 o0 o2 o3 hpl x4 y4 hm0 ht0 x5 y5 ok er
    · exact xj_P13 hF hd ha0 ha x1 x2 x3 y1 y2 y3 hN2 o1 o0 o2 o3 hpl x4 y4 hm0 ht0 x5 y5 ok er
    · exact xj_P14 hF hd ha0 ha x1 x2 x3 y1 y2 y3 hN2 o1 o0 o2 o3 hpl x4 y4 hm0 ht0 x5 y5 ok er
    · exact xj_P15 hF hd ha0 ha x1 x2 x3 y1 y2 y3 hN2 o1 o0 o2 o3 hpl x4 y4 hm0 ht0 x5 y5 ok er
    · exact xj_P16 hF hd ha0 ha x1 x2 x3 y1 y2 y3 hN2 o1 o0 o2 o3 hpl x4 y4 hm0 ht0 x5 y5 ok er
  rw [if_neg c2] at hO' ⊢
  by_cases c3 : k = 17
  · rw [if_pos c3] at hO' ⊢
    subst c3
    obtain ⟨o1, o2, o3, o4, R, o5, o6, o7, o8, o9⟩ := hO'
    refine xj_H hF hd ha0 ha o1 hN2 o3 o2 o4.1 (by omega) o4.2.2 o6 o7 rfl o8.1 o8.2 o9 hpl (fun t ht' => ?_) hm0 ht0 hch ok er
    have : some t ∈ cs.map ty := by rw [ht]; exact List.mem_map.mpr ⟨t, ht', rfl⟩
    obtain ⟨y, _, e⟩ := List.mem_map.mp this
    exact (ty_gd e).2
  rw [if_neg c3] at hO' ⊢
  by_cases c4 : k = 18
  · rw [if_pos c4] at hO' ⊢
    subst c4
    obtain ⟨o1, o2, o3, o4, o5, o6, rfl, o7⟩ := hO'
    have : ts = [] := List.length_eq_zero_iff.mp hlen.symm
    subst this
    exact xj_U (v := v) hF hd ha0 ha o1 hm0 ht0 ok
  rw [if_neg c4] at hO' ⊢
  obtain ⟨o0, o1, o2, x, rfl, o3⟩ := hO'
  have hv : v = 0 := hv0 (Or.inr (by omega))
  subst hv
  obtain ⟨⟨p1, a1, l1⟩, rfl⟩ := List.length_eq_one_iff.mp hlen.symm
  obtain ⟨⟨⟨x1, x2⟩, x3, x4, x5⟩, -⟩ := hch
  have : k = 19 ∨ k = 20 ∨ k = 21 ∨ k = 22 ∨ k = 23 ∨ k = 24 ∨ k = 25 := by omega
  rcases this with rfl | rfl | rfl | rfl | rfl | rfl | rfl
  · exact xj_W19 hF hd ha0 ha x1 x2 x3 hN2 o1 o2 o3 hpl x4 hm0 ht0 x5 ok er
  · exact xj_W20 hF hd ha0 ha x1 x2 x3 hN2 o1 o2 o3 hpl x4 hm0 ht0 x5 ok er
  · exact xj_W21 hF hd ha0 ha x1 x2 x3 hN2 o1 o2 o3 hpl x4 hm0 ht0 x5 ok er
  · exact xj_W22 hF hd ha0 ha x1 x2 x3 hN2 o1 o2 o3 hpl x4 hm0 ht0 x5 ok er
  · exact xj_W23 hF hd ha0 ha x1 x2 x3 hN2 o1 o2 o3 hpl x4 hm0 ht0 x5 ok er
  · exact xj_W24 hF hd ha0 ha x1 x2 x3 hN2 o1 o2 o3 hpl x4 hm0 ht0 x5 ok er
  · exact xj_W25 hF hd ha0 ha x1 x2 x3 hN2 o1 o2 o3 hpl x4 hm0 ht0 x5 ok er
end X10

