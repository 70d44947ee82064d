set_option maxRecDepth 100000
/-! ===== the twin reads what stands in brackets: fragments, whole ===== -/
section Q12
variable {d : Nat} {post : Outcome × zS → Prop} {tp : Nat → Nat} {sz : Nat}
theorem pJ_cap {x : zNd} {a b : Nat} {y : zNd} {a' b' : Nat} (h : (pJ x).map (fun y => (y, a, b)) = .ok (y, a', b')) : a' = a := by
  revert h
  cases pJ x with
  | error z => intro e; cases e
  | ok z => intro e; cases e; rfl
theorem m_inside2 {S : zS} (hF : zFin true S) (hd : 10 ≤ d) {at0 rd nx wt B k p deep : Nat} {rec : Nat → Nat → Nat → pE (zNd × Nat × Nat)} (hP : mP tp sz S at0 rd nx wt) (hp : p ≤ 300) (hdp : deep < 2000) (hrd : rd ≤ 80) (hB : nx + 2 * (sz - at0) + 3 ≤ B) (hB3 : B ≤ 3000) (hwt : wt + (sz - at0) ≤ 2000) (hR : mRd tp sz B (d - 1) (deep + 1) rec) (hk : 11 ≤ k ∧ k < 17)
    (h : ∀ S' q, mEnd tp sz B nx wt S (pIn tp sz rec k p deep at0 rd) (fun at1 => nx + 2 * (at1 - at0)) q S' → post (.returned (some (.int q)), S')) : zCall d 151 [.ref 1592, .int (Int32.ofNat k), .int (Int32.ofNat p), .int (Int32.ofNat deep)] S post := by
  have hs0 := hP.2.2.2.1
  have ha0 := hP.2.2.2.2
  by_cases c11 : k = 11
  · subst c11
    have eU : pIn tp sz rec 11 p deep at0 rd = (do
      let a ← rec (deep + 1) at0 rd
      let at1 ← pWant tp sz 44 a.2.1
      let b ← rec (deep + 1) at1 a.2.2
      let at3 ← pWant tp sz 41 b.2.1
      let x ← pJ (tN 11 0 [] p [a.1, b.1])
      .ok (x, at3, b.2.2)) := rfl
    refine ib_11 (B := B) (rec := rec) hF (by omega) p deep hP hp hdp hrd hs0 ha0 hB hB3 hwt hR ?_ ?_ ?_ ?_ ?_
    · intro S9 y9 i9 at9 rd9 nx9 f9 e9 k9 t9 p9 g9 S11 f11 e11 k11 p11 S13 y13 i13 at13 rd13 nx13 f13 e13 k13 t13 p13 g13 S15 f15 e15 k15 p15
      refine m_node (k := 11) (v := 0) (B := B) f15 p15 (by omega) hB3 (by omega) (by omega) hp (fun S17 f17 k17 p17 o17 => ?_)
      show zEv d 151 294 _ [.int (Int32.ofNat nx13)] S17 post
      refine zEv.wk (by repeat' (first | exact trivial | exact Or.inl rfl | exact Or.inr rfl | refine ⟨?_, ?_⟩)) (ic294_11 (S := S17) f17 (by omega) p i9 i13 nx13 hp (by omega) (by omega) (by omega) ?_)
      have t9' : mT true S17 nx nx9 y9 i9 := (((t9.fr k11 (Nat.le_refl _)).fr k13 (Nat.le_refl _)).fr k15 (by omega)).fr k17 (by omega)
      have t13' : mT true S17 nx9 nx13 y13 i13 := (t13.fr k15 (Nat.le_refl _)).fr k17 (Nat.le_refl _)
      have hD : mDs S17 nx13 [y9, y13] [(i9, nx, nx9), (i13, nx9, nx13)] := ⟨t9', Or.inr (by show nx9 ≤ nx13; omega), (fun q hq => by rw [List.mem_singleton.mp hq]; exact Or.inl (Nat.le_refl _)), t13', Or.inr (Nat.le_refl _), (fun q hq => by cases hq), trivial⟩
      refine m_put2 (B := B) (lo := nx) (hi := nx13 + 1) f17 (by omega) p17 (by omega) (by omega) (by omega) (by omega) (by omega) o17 hD (by omega) (by omega) hp (Nat.le_refl _) (fun S' q m => ?_)
      refine h S' q (m.pre ((((k9.tr (k11.w (by omega) (Nat.le_refl _) (Nat.le_refl _))).tr (k13.w (by omega) (Nat.le_refl _) (Nat.le_refl _))).tr (k15.w (by omega) (Nat.le_refl _) (Nat.le_refl _))).tr (k17.w (by omega) (Nat.le_refl _) (Nat.le_refl _))) ?_ (fun x a b e => ?_))
      · refine eU.trans ((pb_ok e9).trans ((pb_ok e11).trans ((pb_ok e13).trans ((pb_ok e15).trans ?_))))
        show (pJ (tN 11 0 [] p [y9, y13]) >>= fun x => Except.ok (x, at13 + 1, rd13)) = _
        cases pJ (tN 11 0 [] p [y9, y13]) <;> rfl
      · have ea := pJ_cap e
        subst ea
        show nx13 + 1 ≤ nx + 2 * (at13 + 1 - at0)
        omega
    · intro S9 y9 i9 at9 rd9 nx9 f9 e9 k9 t9 p9 g9 S11 f11 e11 k11 p11 S13 y13 i13 at13 rd13 nx13 f13 e13 k13 t13 p13 g13 S16 f16 e16 k16 x16
      exact h S16 _ (mEnd.err f16 (((k9.tr (k11.w (by omega) (Nat.le_refl _) (Nat.le_refl _))).tr (k13.w (by omega) (Nat.le_refl _) (Nat.le_refl _))).tr (k16.w (by omega) (Nat.le_refl _) (Nat.le_refl _))) x16 (eU.trans ((pb_ok e9).trans ((pb_ok e11).trans ((pb_ok e13).trans (pb_er e16))))))
    · intro S9 y9 i9 at9 rd9 nx9 f9 e9 k9 t9 p9 g9 S11 f11 e11 k11 p11 S14 u14 kk14 z14 f14 e14 k14 x14 w14
      exact h S14 _ (mEnd.err f14 ((k9.tr (k11.w (by omega) (Nat.le_refl _) (Nat.le_refl _))).tr (k14.w (by omega) (Nat.le_refl _) (Nat.le_refl _))) x14 (eU.trans ((pb_ok e9).trans ((pb_ok e11).trans (pb_er e14)))))
    · intro S9 y9 i9 at9 rd9 nx9 f9 e9 k9 t9 p9 g9 S12 f12 e12 k12 x12
      exact h S12 _ (mEnd.err f12 (k9.tr (k12.w (by omega) (Nat.le_refl _) (Nat.le_refl _))) x12 (eU.trans ((pb_ok e9).trans (pb_er e12))))
    · intro S10 u10 kk10 z10 f10 e10 k10 x10 w10
      exact h S10 _ (mEnd.err f10 k10 x10 (eU.trans (pb_er e10)))
  by_cases c12 : k = 12
  · subst c12
    have eU : pIn tp sz rec 12 p deep at0 rd = (do
      let a ← rec (deep + 1) at0 rd
      let at1 ← pWant tp sz 44 a.2.1
      let b ← rec (deep + 1) at1 a.2.2
      let at3 ← pWant tp sz 41 b.2.1
      let x ← pJ (tN 12 0 [] p [a.1, b.1])
      .ok (x, at3, b.2.2)) := rfl
    refine ib_12 (B := B) (rec := rec) hF (by omega) p deep hP hp hdp hrd hs0 ha0 hB hB3 hwt hR ?_ ?_ ?_ ?_ ?_
    · intro S9 y9 i9 at9 rd9 nx9 f9 e9 k9 t9 p9 g9 S11 f11 e11 k11 p11 S13 y13 i13 at13 rd13 nx13 f13 e13 k13 t13 p13 g13 S15 f15 e15 k15 p15
      refine m_node (k := 12) (v := 0) (B := B) f15 p15 (by omega) hB3 (by omega) (by omega) hp (fun S17 f17 k17 p17 o17 => ?_)
      show zEv d 151 294 _ [.int (Int32.ofNat nx13)] S17 post
      refine zEv.wk (by repeat' (first | exact trivial | exact Or.inl rfl | exact Or.inr rfl | refine ⟨?_, ?_⟩)) (ic294_12 (S := S17) f17 (by omega) p i9 i13 nx13 hp (by omega) (by omega) (by omega) ?_)
      have t9' : mT true S17 nx nx9 y9 i9 := (((t9.fr k11 (Nat.le_refl _)).fr k13 (Nat.le_refl _)).fr k15 (by omega)).fr k17 (by omega)
      have t13' : mT true S17 nx9 nx13 y13 i13 := (t13.fr k15 (Nat.le_refl _)).fr k17 (Nat.le_refl _)
      have hD : mDs S17 nx13 [y9, y13] [(i9, nx, nx9), (i13, nx9, nx13)] := ⟨t9', Or.inr (by show nx9 ≤ nx13; omega), (fun q hq => by rw [List.mem_singleton.mp hq]; exact Or.inl (Nat.le_refl _)), t13', Or.inr (Nat.le_refl _), (fun q hq => by cases hq), trivial⟩
      refine m_put2 (B := B) (lo := nx) (hi := nx13 + 1) f17 (by omega) p17 (by omega) (by omega) (by omega) (by omega) (by omega) o17 hD (by omega) (by omega) hp (Nat.le_refl _) (fun S' q m => ?_)
      refine h S' q (m.pre ((((k9.tr (k11.w (by omega) (Nat.le_refl _) (Nat.le_refl _))).tr (k13.w (by omega) (Nat.le_refl _) (Nat.le_refl _))).tr (k15.w (by omega) (Nat.le_refl _) (Nat.le_refl _))).tr (k17.w (by omega) (Nat.le_refl _) (Nat.le_refl _))) ?_ (fun x a b e => ?_))
      · refine eU.trans ((pb_ok e9).trans ((pb_ok e11).trans ((pb_ok e13).trans ((pb_ok e15).trans ?_))))
        show (pJ (tN 12 0 [] p [y9, y13]) >>= fun x => Except.ok (x, at13 + 1, rd13)) = _
        cases pJ (tN 12 0 [] p [y9, y13]) <;> rfl
      · have ea := pJ_cap e
        subst ea
        show nx13 + 1 ≤ nx + 2 * (at13 + 1 - at0)
        omega
    · intro S9 y9 i9 at9 rd9 nx9 f9 e9 k9 t9 p9 g9 S11 f11 e11 k11 p11 S13 y13 i13 at13 rd13 nx13 f13 e13 k13 t13 p13 g13 S16 f16 e16 k16 x16
      exact h S16 _ (mEnd.err f16 (((k9.tr (k11.w (by omega) (Nat.le_refl _) (Nat.le_refl _))).tr (k13.w (by omega) (Nat.le_refl _) (Nat.le_refl _))).tr (k16.w (by omega) (Nat.le_refl _) (Nat.le_refl _))) x16 (eU.trans ((pb_ok e9).trans ((pb_ok e11).trans ((pb_ok e13).trans (pb_er e16))))))
    · intro S9 y9 i9 at9 rd9 nx9 f9 e9 k9 t9 p9 g9 S11 f11 e11 k11 p11 S14 u14 kk14 z14 f14 e14 k14 x14 w14
      exact h S14 _ (mEnd.err f14 ((k9.tr (k11.w (by omega) (Nat.le_refl _) (Nat.le_refl _))).tr (k14.w (by omega) (Nat.le_refl _) (Nat.le_refl _))) x14 (eU.trans ((pb_ok e9).trans ((pb_ok e11).trans (pb_er e14)))))
    · intro S9 y9 i9 at9 rd9 nx9 f9 e9 k9 t9 p9 g9 S12 f12 e12 k12 x12
      exact h S12 _ (mEnd.err f12 (k9.tr (k12.w (by omega) (Nat.le_refl _) (Nat.le_refl _))) x12 (eU.trans ((pb_ok e9).trans (pb_er e12))))
    · intro S10 u10 kk10 z10 f10 e10 k10 x10 w10
      exact h S10 _ (mEnd.err f10 k10 x10 (eU.trans (pb_er e10)))
  by_cases c13 : k = 13
  · subst c13
    have eU : pIn tp sz rec 13 p deep at0 rd = (do
      let a ← rec (deep + 1) at0 rd
      let at1 ← pWant tp sz 44 a.2.1
      let b ← rec (deep + 1) at1 a.2.2
      let at3 ← pWant tp sz 41 b.2.1
      let x ← pJ (tN 13 0 [] p [a.1, b.1])
      .ok (x, at3, b.2.2)) := rfl
    refine ib_13 (B := B) (rec := rec) hF (by omega) p deep hP hp hdp hrd hs0 ha0 hB hB3 hwt hR ?_ ?_ ?_ ?_ ?_
    · intro S9 y9 i9 at9 rd9 nx9 f9 e9 k9 t9 p9 g9 S11 f11 e11 k11 p11 S13 y13 i13 at13 rd13 nx13 f13 e13 k13 t13 p13 g13 S15 f15 e15 k15 p15
      refine m_node (k := 13) (v := 0) (B := B) f15 p15 (by omega) hB3 (by omega) (by omega) hp (fun S17 f17 k17 p17 o17 => ?_)
      show zEv d 151 294 _ [.int (Int32.ofNat nx13)] S17 post
      refine zEv.wk (by repeat' (first | exact trivial | exact Or.inl rfl | exact Or.inr rfl | refine ⟨?_, ?_⟩)) (ic294_13 (S := S17) f17 (by omega) p i9 i13 nx13 hp (by omega) (by omega) (by omega) ?_)
      have t9' : mT true S17 nx nx9 y9 i9 := (((t9.fr k11 (Nat.le_refl _)).fr k13 (Nat.le_refl _)).fr k15 (by omega)).fr k17 (by omega)
      have t13' : mT true S17 nx9 nx13 y13 i13 := (t13.fr k15 (Nat.le_refl _)).fr k17 (Nat.le_refl _)
      have hD : mDs S17 nx13 [y9, y13] [(i9, nx, nx9), (i13, nx9, nx13)] := ⟨t9', Or.inr (by show nx9 ≤ nx13; omega), (fun q hq => by rw [List.mem_singleton.mp hq]; exact Or.inl (Nat.le_refl _)), t13', Or.inr (Nat.le_refl _), (fun q hq => by cases hq), trivial⟩
      refine m_put2 (B := B) (lo := nx) (hi := nx13 + 1) f17 (by omega) p17 (by omega) (by omega) (by omega) (by omega) (by omega) o17 hD (by omega) (by omega) hp (Nat.le_refl _) (fun S' q m => ?_)
      refine h S' q (m.pre ((((k9.tr (k11.w (by omega) (Nat.le_refl _) (Nat.le_refl _))).tr (k13.w (by omega) (Nat.le_refl _) (Nat.le_refl _))).tr (k15.w (by omega) (Nat.le_refl _) (Nat.le_refl _))).tr (k17.w (by omega) (Nat.le_refl _) (Nat.le_refl _))) ?_ (fun x a b e => ?_))
      · refine eU.trans ((pb_ok e9).trans ((pb_ok e11).trans ((pb_ok e13).trans ((pb_ok e15).trans ?_))))
        show (pJ (tN 13 0 [] p [y9, y13]) >>= fun x => Except.ok (x, at13 + 1, rd13)) = _
        cases pJ (tN 13 0 [] p [y9, y13]) <;> rfl
      · have ea := pJ_cap e
        subst ea
        show nx13 + 1 ≤ nx + 2 * (at13 + 1 - at0)
        omega
    · intro S9 y9 i9 at9 rd9 nx9 f9 e9 k9 t9 p9 g9 S11 f11 e11 k11 p11 S13 y13 i13 at13 rd13 nx13 f13 e13 k13 t13 p13 g13 S16 f16 e16 k16 x16
      exact h S16 _ (mEnd.err f16 (((k9.tr (k11.w (by omega) (Nat.le_refl _) (Nat.le_refl _))).tr (k13.w (by omega) (Nat.le_refl _) (Nat.le_refl _))).tr (k16.w (by omega) (Nat.le_refl _) (Nat.le_refl _))) x16 (eU.trans ((pb_ok e9).trans ((pb_ok e11).trans ((pb_ok e13).trans (pb_er e16))))))
    · intro S9 y9 i9 at9 rd9 nx9 f9 e9 k9 t9 p9 g9 S11 f11 e11 k11 p11 S14 u14 kk14 z14 f14 e14 k14 x14 w14
      exact h S14 _ (mEnd.err f14 ((k9.tr (k11.w (by omega) (Nat.le_refl _) (Nat.le_refl _))).tr (k14.w (by omega) (Nat.le_refl _) (Nat.le_refl _))) x14 (eU.trans ((pb_ok e9).trans ((pb_ok e11).trans (pb_er e14)))))
    · intro S9 y9 i9 at9 rd9 nx9 f9 e9 k9 t9 p9 g9 S12 f12 e12 k12 x12
      exact h S12 _ (mEnd.err f12 (k9.tr (k12.w (by omega) (Nat.le_refl _) (Nat.le_refl _))) x12 (eU.trans ((pb_ok e9).trans (pb_er e12))))
    · intro S10 u10 kk10 z10 f10 e10 k10 x10 w10
      exact h S10 _ (mEnd.err f10 k10 x10 (eU.trans (pb_er e10)))
  by_cases c14 : k = 14
  · subst c14
    have eU : pIn tp sz rec 14 p deep at0 rd = (do
      let a ← rec (deep + 1) at0 rd
      let at1 ← pWant tp sz 44 a.2.1
      let b ← rec (deep + 1) at1 a.2.2
      let at3 ← pWant tp sz 41 b.2.1
      let x ← pJ (tN 14 0 [] p [a.1, b.1])
      .ok (x, at3, b.2.2)) := rfl
    refine ib_14 (B := B) (rec := rec) hF (by omega) p deep hP hp hdp hrd hs0 ha0 hB hB3 hwt hR ?_ ?_ ?_ ?_ ?_
    · intro S9 y9 i9 at9 rd9 nx9 f9 e9 k9 t9 p9 g9 S11 f11 e11 k11 p11 S13 y13 i13 at13 rd13 nx13 f13 e13 k13 t13 p13 g13 S15 f15 e15 k15 p15
      refine m_node (k := 14) (v := 0) (B := B) f15 p15 (by omega) hB3 (by omega) (by omega) hp (fun S17 f17 k17 p17 o17 => ?_)
      show zEv d 151 294 _ [.int (Int32.ofNat nx13)] S17 post
      refine zEv.wk (by repeat' (first | exact trivial | exact Or.inl rfl | exact Or.inr rfl | refine ⟨?_, ?_⟩)) (ic294_14 (S := S17) f17 (by omega) p i9 i13 nx13 hp (by omega) (by omega) (by omega) ?_)
      have t9' : mT true S17 nx nx9 y9 i9 := (((t9.fr k11 (Nat.le_refl _)).fr k13 (Nat.le_refl _)).fr k15 (by omega)).fr k17 (by omega)
      have t13' : mT true S17 nx9 nx13 y13 i13 := (t13.fr k15 (Nat.le_refl _)).fr k17 (Nat.le_refl _)
      have hD : mDs S17 nx13 [y9, y13] [(i9, nx, nx9), (i13, nx9, nx13)] := ⟨t9', Or.inr (by show nx9 ≤ nx13; omega), (fun q hq => by rw [List.mem_singleton.mp hq]; exact Or.inl (Nat.le_refl _)), t13', Or.inr (Nat.le_refl _), (fun q hq => by cases hq), trivial⟩
      refine m_put2 (B := B) (lo := nx) (hi := nx13 + 1) f17 (by omega) p17 (by omega) (by omega) (by omega) (by omega) (by omega) o17 hD (by omega) (by omega) hp (Nat.le_refl _) (fun S' q m => ?_)
      refine h S' q (m.pre ((((k9.tr (k11.w (by omega) (Nat.le_refl _) (Nat.le_refl _))).tr (k13.w (by omega) (Nat.le_refl _) (Nat.le_refl _))).tr (k15.w (by omega) (Nat.le_refl _) (Nat.le_refl _))).tr (k17.w (by omega) (Nat.le_refl _) (Nat.le_refl _))) ?_ (fun x a b e => ?_))
      · refine eU.trans ((pb_ok e9).trans ((pb_ok e11).trans ((pb_ok e13).trans ((pb_ok e15).trans ?_))))
        show (pJ (tN 14 0 [] p [y9, y13]) >>= fun x => Except.ok (x, at13 + 1, rd13)) = _
        cases pJ (tN 14 0 [] p [y9, y13]) <;> rfl
      · have ea := pJ_cap e
        subst ea
        show nx13 + 1 ≤ nx + 2 * (at13 + 1 - at0)
        omega
    · intro S9 y9 i9 at9 rd9 nx9 f9 e9 k9 t9 p9 g9 S11 f11 e11 k11 p11 S13 y13 i13 at13 rd13 nx13 f13 e13 k13 t13 p13 g13 S16 f16 e16 k16 x16
      exact h S16 _ (mEnd.err f16 (((k9.tr (k11.w (by omega) (Nat.le_refl _) (Nat.le_refl _))).tr (k13.w (by omega) (Nat.le_refl _) (Nat.le_refl _))).tr (k16.w (by omega) (Nat.le_refl _) (Nat.le_refl _))) x16 (eU.trans ((pb_ok e9).trans ((pb_ok e11).trans ((pb_ok e13).trans (pb_er e16))))))
    · intro S9 y9 i9 at9 rd9 nx9 f9 e9 k9 t9 p9 g9 S11 f11 e11 k11 p11 S14 u14 kk14 z14 f14 e14 k14 x14 w14
      exact h S14 _ (mEnd.err f14 ((k9.tr (k11.w (by omega) (Nat.le_refl _) (Nat.le_refl _))).tr (k14.w (by omega) (Nat.le_refl _) (Nat.le_refl _))) x14 (eU.trans ((pb_ok e9).trans ((pb_ok e11).trans (pb_er e14)))))
    · intro S9 y9 i9 at9 rd9 nx9 f9 e9 k9 t9 p9 g9 S12 f12 e12 k12 x12
      exact h S12 _ (mEnd.err f12 (k9.tr (k12.w (by omega) (Nat.le_refl _) (Nat.le_refl _))) x12 (eU.trans ((pb_ok e9).trans (pb_er e12))))
    · intro S10 u10 kk10 z10 f10 e10 k10 x10 w10
      exact h S10 _ (mEnd.err f10 k10 x10 (eU.trans (pb_er e10)))
  by_cases c15 : k = 15
  · subst c15
    have eU : pIn tp sz rec 15 p deep at0 rd = (do
      let a ← rec (deep + 1) at0 rd
      let at1 ← pWant tp sz 44 a.2.1
      let b ← rec (deep + 1) at1 a.2.2
      let at3 ← pWant tp sz 41 b.2.1
      let x ← pJ (tN 15 0 [] p [a.1, b.1])
      .ok (x, at3, b.2.2)) := rfl
    refine ib_15 (B := B) (rec := rec) hF (by omega) p deep hP hp hdp hrd hs0 ha0 hB hB3 hwt hR ?_ ?_ ?_ ?_ ?_
    · intro S9 y9 i9 at9 rd9 nx9 f9 e9 k9 t9 p9 g9 S11 f11 e11 k11 p11 S13 y13 i13 at13 rd13 nx13 f13 e13 k13 t13 p13 g13 S15 f15 e15 k15 p15
      refine m_node (k := 15) (v := 0) (B := B) f15 p15 (by omega) hB3 (by omega) (by omega) hp (fun S17 f17 k17 p17 o17 => ?_)
      show zEv d 151 294 _ [.int (Int32.ofNat nx13)] S17 post
      refine zEv.wk (by repeat' (first | exact trivial | exact Or.inl rfl | exact Or.inr rfl | refine ⟨?_, ?_⟩)) (ic294_15 (S := S17) f17 (by omega) p i9 i13 nx13 hp (by omega) (by omega) (by omega) ?_)
      have t9' : mT true S17 nx nx9 y9 i9 := (((t9.fr k11 (Nat.le_refl _)).fr k13 (Nat.le_refl _)).fr k15 (by omega)).fr k17 (by omega)
      have t13' : mT true S17 nx9 nx13 y13 i13 := (t13.fr k15 (Nat.le_refl _)).fr k17 (Nat.le_refl _)
      have hD : mDs S17 nx13 [y9, y13] [(i9, nx, nx9), (i13, nx9, nx13)] := ⟨t9', Or.inr (by show nx9 ≤ nx13; omega), (fun q hq => by rw [List.mem_singleton.mp hq]; exact Or.inl (Nat.le_refl _)), t13', Or.inr (Nat.le_refl _), (fun q hq => by cases hq), trivial⟩
      refine m_put2 (B := B) (lo := nx) (hi := nx13 + 1) f17 (by omega) p17 (by omega) (by omega) (by omega) (by omega) (by omega) o17 hD (by omega) (by omega) hp (Nat.le_refl _) (fun S' q m => ?_)
      refine h S' q (m.pre ((((k9.tr (k11.w (by omega) (Nat.le_refl _) (Nat.le_refl _))).tr (k13.w (by omega) (Nat.le_refl _) (Nat.le_refl _))).tr (k15.w (by omega) (Nat.le_refl _) (Nat.le_refl _))).tr (k17.w (by omega) (Nat.le_refl _) (Nat.le_refl _))) ?_ (fun x a b e => ?_))
      · refine eU.trans ((pb_ok e9).trans ((pb_ok e11).trans ((pb_ok e13).trans ((pb_ok e15).trans ?_))))
        show (pJ (tN 15 0 [] p [y9, y13]) >>= fun x => Except.ok (x, at13 + 1, rd13)) = _
        cases pJ (tN 15 0 [] p [y9, y13]) <;> rfl
      · have ea := pJ_cap e
        subst ea
        show nx13 + 1 ≤ nx + 2 * (at13 + 1 - at0)
        omega
    · intro S9 y9 i9 at9 rd9 nx9 f9 e9 k9 t9 p9 g9 S11 f11 e11 k11 p11 S13 y13 i13 at13 rd13 nx13 f13 e13 k13 t13 p13 g13 S16 f16 e16 k16 x16
      exact h S16 _ (mEnd.err f16 (((k9.tr (k11.w (by omega) (Nat.le_refl _) (Nat.le_refl _))).tr (k13.w (by omega) (Nat.le_refl _) (Nat.le_refl _))).tr (k16.w (by omega) (Nat.le_refl _) (Nat.le_refl _))) x16 (eU.trans ((pb_ok e9).trans ((pb_ok e11).trans ((pb_ok e13).trans (pb_er e16))))))
    · intro S9 y9 i9 at9 rd9 nx9 f9 e9 k9 t9 p9 g9 S11 f11 e11 k11 p11 S14 u14 kk14 z14 f14 e14 k14 x14 w14
      exact h S14 _ (mEnd.err f14 ((k9.tr (k11.w (by omega) (Nat.le_refl _) (Nat.le_refl _))).tr (k14.w (by omega) (Nat.le_refl _) (Nat.le_refl _))) x14 (eU.trans ((pb_ok e9).trans ((pb_ok e11).trans (pb_er e14)))))
    · intro S9 y9 i9 at9 rd9 nx9 f9 e9 k9 t9 p9 g9 S12 f12 e12 k12 x12
      exact h S12 _ (mEnd.err f12 (k9.tr (k12.w (by omega) (Nat.le_refl _) (Nat.le_refl _))) x12 (eU.trans ((pb_ok e9).trans (pb_er e12))))
    · intro S10 u10 kk10 z10 f10 e10 k10 x10 w10
      exact h S10 _ (mEnd.err f10 k10 x10 (eU.trans (pb_er e10)))
  by_cases c16 : k = 16
  · subst c16
    have eU : pIn tp sz rec 16 p deep at0 rd = (do
      let a ← rec (deep + 1) at0 rd
      let at1 ← pWant tp sz 44 a.2.1
      let b ← rec (deep + 1) at1 a.2.2
      let at3 ← pWant tp sz 41 b.2.1
      let x ← pJ (tN 16 0 [] p [a.1, b.1])
      .ok (x, at3, b.2.2)) := rfl
    refine ib_16 (B := B) (rec := rec) hF (by omega) p deep hP hp hdp hrd hs0 ha0 hB hB3 hwt hR ?_ ?_ ?_ ?_ ?_
    · intro S9 y9 i9 at9 rd9 nx9 f9 e9 k9 t9 p9 g9 S11 f11 e11 k11 p11 S13 y13 i13 at13 rd13 nx13 f13 e13 k13 t13 p13 g13 S15 f15 e15 k15 p15
      refine m_node (k := 16) (v := 0) (B := B) f15 p15 (by omega) hB3 (by omega) (by omega) hp (fun S17 f17 k17 p17 o17 => ?_)
      show zEv d 151 294 _ [.int (Int32.ofNat nx13)] S17 post
      refine zEv.wk (by repeat' (first | exact trivial | exact Or.inl rfl | exact Or.inr rfl | refine ⟨?_, ?_⟩)) (ic294_16 (S := S17) f17 (by omega) p i9 i13 nx13 hp (by omega) (by omega) (by omega) ?_)
      have t9' : mT true S17 nx nx9 y9 i9 := (((t9.fr k11 (Nat.le_refl _)).fr k13 (Nat.le_refl _)).fr k15 (by omega)).fr k17 (by omega)
      have t13' : mT true S17 nx9 nx13 y13 i13 := (t13.fr k15 (Nat.le_refl _)).fr k17 (Nat.le_refl _)
      have hD : mDs S17 nx13 [y9, y13] [(i9, nx, nx9), (i13, nx9, nx13)] := ⟨t9', Or.inr (by show nx9 ≤ nx13; omega), (fun q hq => by rw [List.mem_singleton.mp hq]; exact Or.inl (Nat.le_refl _)), t13', Or.inr (Nat.le_refl _), (fun q hq => by cases hq), trivial⟩
      refine m_put2 (B := B) (lo := nx) (hi := nx13 + 1) f17 (by omega) p17 (by omega) (by omega) (by omega) (by omega) (by omega) o17 hD (by omega) (by omega) hp (Nat.le_refl _) (fun S' q m => ?_)
      refine h S' q (m.pre ((((k9.tr (k11.w (by omega) (Nat.le_refl _) (Nat.le_refl _))).tr (k13.w (by omega) (Nat.le_refl _) (Nat.le_refl _))).tr (k15.w (by omega) (Nat.le_refl _) (Nat.le_refl _))).tr (k17.w (by omega) (Nat.le_refl _) (Nat.le_refl _))) ?_ (fun x a b e => ?_))
      · refine eU.trans ((pb_ok e9).trans ((pb_ok e11).trans ((pb_ok e13).trans ((pb_ok e15).trans ?_))))
        show (pJ (tN 16 0 [] p [y9, y13]) >>= fun x => Except.ok (x, at13 + 1, rd13)) = _
        cases pJ (tN 16 0 [] p [y9, y13]) <;> rfl
      · have ea := pJ_cap e
        subst ea
        show nx13 + 1 ≤ nx + 2 * (at13 + 1 - at0)
        omega
    · intro S9 y9 i9 at9 rd9 nx9 f9 e9 k9 t9 p9 g9 S11 f11 e11 k11 p11 S13 y13 i13 at13 rd13 nx13 f13 e13 k13 t13 p13 g13 S16 f16 e16 k16 x16
      exact h S16 _ (mEnd.err f16 (((k9.tr (k11.w (by omega) (Nat.le_refl _) (Nat.le_refl _))).tr (k13.w (by omega) (Nat.le_refl _) (Nat.le_refl _))).tr (k16.w (by omega) (Nat.le_refl _) (Nat.le_refl _))) x16 (eU.trans ((pb_ok e9).trans ((pb_ok e11).trans ((pb_ok e13).trans (pb_er e16))))))
    · intro S9 y9 i9 at9 rd9 nx9 f9 e9 k9 t9 p9 g9 S11 f11 e11 k11 p11 S14 u14 kk14 z14 f14 e14 k14 x14 w14
      exact h S14 _ (mEnd.err f14 ((k9.tr (k11.w (by omega) (Nat.le_refl _) (Nat.le_refl _))).tr (k14.w (by omega) (Nat.le_refl _) (Nat.le_refl _))) x14 (eU.trans ((pb_ok e9).trans ((pb_ok e11).trans (pb_er e14)))))
    · intro S9 y9 i9 at9 rd9 nx9 f9 e9 k9 t9 p9 g9 S12 f12 e12 k12 x12
      exact h S12 _ (mEnd.err f12 (k9.tr (k12.w (by omega) (Nat.le_refl _) (Nat.le_refl _))) x12 (eU.trans ((pb_ok e9).trans (pb_er e12))))
    · intro S10 u10 kk10 z10 f10 e10 k10 x10 w10
      exact h S10 _ (mEnd.err f10 k10 x10 (eU.trans (pb_er e10)))
  omega
end Q12

