set_option maxRecDepth 100000
/-! ===== the twin puts two or three parts into a node ===== -/
section Q11
variable {d : Nat} {post : Outcome × zS → Prop} {tp : Nat → Nat} {sz : Nat}
theorem m_put2 {S : zS} (hF : zFin true S) (hd : 7 ≤ d) {at0 rd nx wt B lo hi n k p a a0 a1 b b0 b1 : Nat} {x y : zNd} {L1 L2 L3 L4 : Value} (hP : mP tp sz S at0 rd nx wt) (hn : n < 3000) (hnB : n < B) (hl : lo ≤ n) (hh : n < hi) (hhB : hi ≤ B) (hO : mOp S n k 0 p []) (hD : mDs S n [x, y] [(a, a0, a1), (b, b0, b1)]) (hr : lo ≤ a0 ∧ a1 ≤ hi ∧ lo ≤ b0 ∧ b1 ≤ hi) (hk : 11 ≤ k ∧ k < 17) (hp : p ≤ 300) (hhi : hi ≤ nx)
    (h : ∀ S' q, mEnd tp sz B lo wt S ((pJ (tN k 0 [] p [x, y])).map (fun y => (y, at0, rd))) (fun _ => nx) q S' → post (.returned (some (.int q)), S')) : zCall (d - 1) 154 [.ref 1592, .int (Int32.ofNat n), .int (Int32.ofNat a)] S (zAf d 151 320 [.ref 1592, L1, L2, L3, L4, .int (Int32.ofNat a), .int (Int32.ofNat b), .int (-1), .int (Int32.ofNat n)] [] post) := by
  have hrg := hD.rng
  have ra := hrg _ List.mem_cons_self
  have rb := hrg _ (List.mem_cons_of_mem _ List.mem_cons_self)
  have hap := hD.2.2.1 _ (List.mem_singleton_self _)
  have hrs : ∀ r ∈ [(a, a0, a1), (b, b0, b1)], lo ≤ r.2.1 ∧ r.2.2 ≤ hi := fun r hr => by
    rcases List.mem_cons.mp hr with e | e
    · rw [e]; exact ⟨by show lo ≤ a0; omega, by show a1 ≤ hi; omega⟩
    · rw [List.mem_singleton.mp e]; exact ⟨by show lo ≤ b0; omega, by show b1 ≤ hi; omega⟩
  have hrB : ∀ r ∈ [(a, a0, a1), (b, b0, b1)], lo ≤ r.2.1 ∧ r.2.2 ≤ B := fun r h1 => ⟨(hrs r h1).1, by have := (hrs r h1).2; omega⟩
  simp only at ra rb hap
  refine m_adopt (js := []) (B := B) (nx := lo) (wt := wt) hF hn hl hnB hO hD hrB (by simp) (by simp) (fun j hj => ⟨_, List.mem_cons_self, (by simpa using hj : j = a).symm⟩) (fun S4 f4 k4 t4 o4 d4 => ?_)
  show zEv d 151 323 _ [] S4 post
  refine zEv.wk (by repeat' (first | exact trivial | exact Or.inl rfl | exact Or.inr rfl | refine ⟨?_, ?_⟩)) (ic323 (S := S4) f4 (by omega) b n (-1) (by omega) hn ?_)
  refine m_adopt (js := [a]) (B := B) (nx := lo) (wt := wt) f4 hn hl hnB o4 d4 hrB (by simp) (by simp; omega) (fun j hj => by
    rcases List.mem_cons.mp hj with e | e
    · exact ⟨_, List.mem_cons_self, e.symm⟩
    · exact ⟨_, List.mem_cons_of_mem _ List.mem_cons_self, (by simpa using e : j = b).symm⟩) (fun S5 f5 k5 t5 o5 d5 => ?_)
  show zEv d 151 331 _ [] S5 post
  refine zEv.wk (by repeat' (first | exact trivial | exact Or.inl rfl | exact Or.inr rfl | refine ⟨?_, ?_⟩)) (ic331 (S := S5) f5 (by omega) n hn ?_)
  have p5 := (hP.tk t4 (by decide) (by decide)).tk t5 (by decide) (by decide)
  refine m_judged (rs := [(a, a0, a1), (b, b0, b1)]) (B := B) (lo := lo) (hi := hi) f5 (by omega) p5 hn hnB hl hh o5 d5 hrs (by omega) (by omega) (by omega) (by omega) hp ⟨by omega, by omega, by intro _; rfl, by omega, by omega⟩ (fun S6 f6 e6 k6 t6 j6 p6 m6 => ?_) (fun S6 f6 e6 k6 x6 => ?_)
  · show zEv d 151 351 _ [.int (Int32.ofNat n)] S6 post
    refine zEv.wk (by repeat' (first | exact trivial | exact Or.inl rfl | exact Or.inr rfl | refine ⟨?_, ?_⟩)) (ic351 (S := S6) f6 _ ?_)
    refine h S6 _ (mEnd.good f6 ((k4.tr k5).tr k6) (m6.wide (Nat.le_refl _) hhi) p6 (Nat.le_refl _) ?_)
    rw [e6]; rfl
  · show zEv d 151 351 _ [.int (Int32.ofNat n)] S6 post
    refine zEv.wk (by repeat' (first | exact trivial | exact Or.inl rfl | exact Or.inr rfl | refine ⟨?_, ?_⟩)) (ic351 (S := S6) f6 _ ?_)
    refine h S6 _ (mEnd.err f6 ((k4.tr k5).tr k6) x6 ?_)
    rw [e6]; rfl
theorem m_put3 {S : zS} (hF : zFin true S) (hd : 7 ≤ d) {at0 rd nx wt B lo hi n p a a0 a1 b b0 b1 c c0 c1 : Nat} {x y z : zNd} {L1 L2 L3 L4 : Value} (hP : mP tp sz S at0 rd nx wt) (hn : n < 3000) (hnB : n < B) (hl : lo ≤ n) (hh : n < hi) (hhB : hi ≤ B) (hO : mOp S n 10 0 p []) (hD : mDs S n [x, y, z] [(a, a0, a1), (b, b0, b1), (c, c0, c1)]) (hr : lo ≤ a0 ∧ a1 ≤ hi ∧ lo ≤ b0 ∧ b1 ≤ hi ∧ lo ≤ c0 ∧ c1 ≤ hi) (hp : p ≤ 300) (hhi : hi ≤ nx)
    (h : ∀ S' q, mEnd tp sz B lo wt S ((pJ (tN 10 0 [] p [x, y, z])).map (fun y => (y, at0, rd))) (fun _ => nx) q S' → post (.returned (some (.int q)), S')) : zCall (d - 1) 154 [.ref 1592, .int (Int32.ofNat n), .int (Int32.ofNat a)] S (zAf d 151 320 [.ref 1592, L1, L2, L3, L4, .int (Int32.ofNat a), .int (Int32.ofNat b), .int (Int32.ofNat c), .int (Int32.ofNat n)] [] post) := by
  have hrg := hD.rng
  have ra := hrg _ List.mem_cons_self
  have rb := hrg _ (List.mem_cons_of_mem _ List.mem_cons_self)
  have rc := hrg _ (List.mem_cons_of_mem _ (List.mem_cons_of_mem _ List.mem_cons_self))
  have hab := hD.2.2.1 _ List.mem_cons_self
  have hac := hD.2.2.1 _ (List.mem_cons_of_mem _ List.mem_cons_self)
  have hbc := hD.2.2.2.2.2.1 _ (List.mem_singleton_self _)
  have hrs : ∀ r ∈ [(a, a0, a1), (b, b0, b1), (c, c0, c1)], lo ≤ r.2.1 ∧ r.2.2 ≤ hi := fun r hr => by
    rcases List.mem_cons.mp hr with e | e
    · rw [e]; exact ⟨by show lo ≤ a0; omega, by show a1 ≤ hi; omega⟩
    rcases List.mem_cons.mp e with e | e
    · rw [e]; exact ⟨by show lo ≤ b0; omega, by show b1 ≤ hi; omega⟩
    · rw [List.mem_singleton.mp e]; exact ⟨by show lo ≤ c0; omega, by show c1 ≤ hi; omega⟩
  have hrB : ∀ r ∈ [(a, a0, a1), (b, b0, b1), (c, c0, c1)], lo ≤ r.2.1 ∧ r.2.2 ≤ B := fun r h1 => ⟨(hrs r h1).1, by have := (hrs r h1).2; omega⟩
  simp only at ra rb rc hab hac hbc
  have sub : ∀ j, j = a ∨ j = b ∨ j = c → ∃ r ∈ [(a, a0, a1), (b, b0, b1), (c, c0, c1)], r.1 = j := fun j hj => by
    rcases hj with e | e | e
    · exact ⟨_, List.mem_cons_self, e.symm⟩
    · exact ⟨_, List.mem_cons_of_mem _ List.mem_cons_self, e.symm⟩
    · exact ⟨_, List.mem_cons_of_mem _ (List.mem_cons_of_mem _ List.mem_cons_self), e.symm⟩
  refine m_adopt (js := []) (B := B) (nx := lo) (wt := wt) hF hn hl hnB hO hD hrB (by simp) (by simp) (fun j hj => sub j (by simp at hj; omega)) (fun S4 f4 k4 t4 o4 d4 => ?_)
  show zEv d 151 323 _ [] S4 post
  refine zEv.wk (by repeat' (first | exact trivial | exact Or.inl rfl | exact Or.inr rfl | refine ⟨?_, ?_⟩)) (ic323 (S := S4) f4 (by omega) b n (Int32.ofNat c) (by omega) hn ?_)
  refine m_adopt (js := [a]) (B := B) (nx := lo) (wt := wt) f4 hn hl hnB o4 d4 hrB (by simp) (by simp; omega) (fun j hj => sub j (by simp at hj; omega)) (fun S5 f5 k5 t5 o5 d5 => ?_)
  show zEv d 151 331 _ [] S5 post
  refine zEv.wk (by repeat' (first | exact trivial | exact Or.inl rfl | exact Or.inr rfl | refine ⟨?_, ?_⟩)) (ic331c (S := S5) f5 (by omega) c n (by omega) hn ?_)
  refine m_adopt (js := [a, b]) (B := B) (nx := lo) (wt := wt) f5 hn hl hnB o5 d5 hrB (by simp) (by simp; omega) (fun j hj => sub j (by simp at hj; omega)) (fun S7 f7 k7 t7 o7 d7 => ?_)
  show zEv d 151 345 _ [] S7 post
  refine zEv.wk (by repeat' (first | exact trivial | exact Or.inl rfl | exact Or.inr rfl | refine ⟨?_, ?_⟩)) (ic345 (S := S7) f7 (by omega) n hn ?_)
  have p7 := ((hP.tk t4 (by decide) (by decide)).tk t5 (by decide) (by decide)).tk t7 (by decide) (by decide)
  refine m_judged (rs := [(a, a0, a1), (b, b0, b1), (c, c0, c1)]) (B := B) (lo := lo) (hi := hi) f7 (by omega) p7 hn hnB hl hh o7 d7 hrs (by omega) (by omega) (by omega) (by omega) hp ⟨by omega, by intro _; rfl, by omega, by omega, by omega⟩ (fun S6 f6 e6 k6 t6 j6 p6 m6 => ?_) (fun S6 f6 e6 k6 x6 => ?_)
  · show zEv d 151 351 _ [.int (Int32.ofNat n)] S6 post
    refine zEv.wk (by repeat' (first | exact trivial | exact Or.inl rfl | exact Or.inr rfl | refine ⟨?_, ?_⟩)) (ic351 (S := S6) f6 _ ?_)
    refine h S6 _ (mEnd.good f6 (((k4.tr k5).tr k7).tr k6) (m6.wide (Nat.le_refl _) hhi) p6 (Nat.le_refl _) ?_)
    rw [e6]; rfl
  · show zEv d 151 351 _ [.int (Int32.ofNat n)] S6 post
    refine zEv.wk (by repeat' (first | exact trivial | exact Or.inl rfl | exact Or.inr rfl | refine ⟨?_, ?_⟩)) (ic351 (S := S6) f6 _ ?_)
    refine h S6 _ (mEnd.err f6 (((k4.tr k5).tr k7).tr k6) x6 ?_)
    rw [e6]; rfl
end Q11

