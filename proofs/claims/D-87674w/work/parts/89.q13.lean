set_option maxRecDepth 100000
/-! ===== the twin reads what stands in brackets: three fragments, and two with a nought ===== -/
section Q13
variable {d : Nat} {post : Outcome × zS → Prop} {tp : Nat → Nat} {sz : Nat}
theorem mOp.fr {S S' : zS} {n k v p B nx wt : Nat} (h : mOp S n k v p []) (q : mFr B nx wt S S') (hn : n < nx) : mOp S' n k v p [] := by
  obtain ⟨⟨o1, o2, o3, o4, o5⟩, o6, o7⟩ := h
  have g : ∀ a ∈ mRw, gA S' a n = gA S a n := q.2.1 n (Or.inl hn)
  exact ⟨⟨(g _ (by decide)).trans o1, (g _ (by decide)).trans o2, (g _ (by decide)).trans o3, (g _ (by decide)).trans o4, (g _ (by decide)).trans o5⟩, (g _ (by decide)).trans o6, (g _ (by decide)).trans o7⟩
theorem m_inside3 {S : zS} (hF : zFin true S) (hd : 10 ≤ d) {at0 rd nx wt B k p deep : Nat} {rec : Nat → Nat → Nat → pE (zNd × Nat × Nat)} (hP : mP tp sz S at0 rd nx wt) (hp : p ≤ 300) (hdp : deep < 2000) (hrd : rd ≤ 80) (hB : nx + 2 * (sz - at0) + 3 ≤ B) (hB3 : B ≤ 3000) (hwt : wt + (sz - at0) ≤ 2000) (hR : mRd tp sz B (d - 1) (deep + 1) rec) (hk : k = 10 ∨ k = 102)
    (h : ∀ S' q, mEnd tp sz B nx wt S (pIn tp sz rec k p deep at0 rd) (fun at1 => nx + 2 * (at1 - at0)) q S' → post (.returned (some (.int q)), S')) : zCall d 151 [.ref 1592, .int (Int32.ofNat k), .int (Int32.ofNat p), .int (Int32.ofNat deep)] S post := by
  have hs0 := hP.2.2.2.1
  have ha0 := hP.2.2.2.2
  rcases hk with hk | hk
  · subst hk
    have eU : pIn tp sz rec 10 p deep at0 rd = (do
      let a ← rec (deep + 1) at0 rd
      let at1 ← pWant tp sz 44 a.2.1
      let b ← rec (deep + 1) at1 a.2.2
      let at2 ← pWant tp sz 44 b.2.1
      let c ← rec (deep + 1) at2 b.2.2
      let at3 ← pWant tp sz 41 c.2.1
      let x ← pJ (tN 10 0 [] p [a.1, b.1, c.1])
      .ok (x, at3, c.2.2)) := rfl
    refine ib_10 (B := B) (rec := rec) hF (by omega) p deep hP hp hdp hrd hs0 ha0 hB hB3 hwt hR ?_ ?_ ?_ ?_ ?_ ?_ ?_
    · intro S9 y9 i9 at9 rd9 nx9 hF9 e9 k9 t9 p9 g9 S11 hF11 e11 k11 p11 S13 y13 i13 at13 rd13 nx13 hF13 e13 k13 t13 p13 g13 S15 hF15 e15 k15 p15 S17 y17 i17 at17 rd17 nx17 hF17 e17 k17 t17 p17 g17 S19 hF19 e19 k19 p19
      refine m_node (k := 10) (v := 0) (B := B) hF19 p19 (by omega) hB3 (by omega) (by omega) hp (fun S21 f21 k21 p21 o21 => ?_)
      show zEv d 151 294 _ [.int (Int32.ofNat nx17)] S21 post
      refine zEv.wk (by repeat' (first | exact trivial | exact Or.inl rfl | exact Or.inr rfl | refine ⟨?_, ?_⟩)) (ic294_10 (S := S21) f21 (by omega) p i9 i13 i17 nx17 hp (by omega) (by omega) (by omega) (by omega) ?_)
      have t9' : mT true S21 nx nx9 y9 i9 := (((((t9.fr k11 (Nat.le_refl _)).fr k13 (Nat.le_refl _)).fr k15 (by omega)).fr k17 (by omega)).fr k19 (by omega)).fr k21 (by omega)
      have t13' : mT true S21 nx9 nx13 y13 i13 := (((t13.fr k15 (Nat.le_refl _)).fr k17 (Nat.le_refl _)).fr k19 (by omega)).fr k21 (by omega)
      have t17' : mT true S21 nx13 nx17 y17 i17 := (t17.fr k19 (Nat.le_refl _)).fr k21 (Nat.le_refl _)
      have hD : mDs S21 nx17 [y9, y13, y17] [(i9, nx, nx9), (i13, nx9, nx13), (i17, nx13, nx17)] := ⟨t9', Or.inr (by show nx9 ≤ nx17; omega), (fun q hq => by
        rcases List.mem_cons.mp hq with e | e
        · rw [e]; exact Or.inl (Nat.le_refl _)
        · rw [List.mem_singleton.mp e]; exact Or.inl (by show nx9 ≤ nx13; omega)), t13', Or.inr (by show nx13 ≤ nx17; omega), (fun q hq => by rw [List.mem_singleton.mp hq]; exact Or.inl (Nat.le_refl _)), t17', Or.inr (Nat.le_refl _), (fun q hq => by cases hq), trivial⟩
      refine m_put3 (B := B) (lo := nx) (hi := nx17 + 1) f21 (by omega) p21 (by omega) (by omega) (by omega) (by omega) (by omega) o21 hD (by omega) hp (Nat.le_refl _) (fun S' q m => ?_)
      refine h S' q (m.pre (((((((k9.w (by omega) (by omega) (Nat.le_refl _)).tr (k11.w (by omega) (by omega) (Nat.le_refl _))).tr (k13.w (by omega) (by omega) (Nat.le_refl _))).tr (k15.w (by omega) (by omega) (Nat.le_refl _))).tr (k17.w (by omega) (by omega) (Nat.le_refl _))).tr (k19.w (by omega) (by omega) (Nat.le_refl _))).tr (k21.w (by omega) (by omega) (Nat.le_refl _))) ?_ (fun x a b e => ?_))
      · refine eU.trans ((pb_ok e9).trans ((pb_ok e11).trans ((pb_ok e13).trans ((pb_ok e15).trans ((pb_ok e17).trans ((pb_ok e19).trans ?_))))))
        show (pJ (tN 10 0 [] p [y9, y13, y17]) >>= fun x => Except.ok (x, at17 + 1, rd17)) = _
        cases pJ (tN 10 0 [] p [y9, y13, y17]) <;> rfl
      · have ea := pJ_cap e
        subst ea
        show nx17 + 1 ≤ nx + 2 * (at17 + 1 - at0)
        omega
    · intro S9 y9 i9 at9 rd9 nx9 hF9 e9 k9 t9 p9 g9 S11 hF11 e11 k11 p11 S13 y13 i13 at13 rd13 nx13 hF13 e13 k13 t13 p13 g13 S15 hF15 e15 k15 p15 S17 y17 i17 at17 rd17 nx17 hF17 e17 k17 t17 p17 g17 S20 hF20 e20 k20 x20
      exact h S20 _ (mEnd.err hF20 ((((((k9.w (by omega) (by omega) (Nat.le_refl _)).tr (k11.w (by omega) (by omega) (Nat.le_refl _))).tr (k13.w (by omega) (by omega) (Nat.le_refl _))).tr (k15.w (by omega) (by omega) (Nat.le_refl _))).tr (k17.w (by omega) (by omega) (Nat.le_refl _))).tr (k20.w (by omega) (by omega) (Nat.le_refl _))) x20 (eU.trans ((pb_ok e9).trans ((pb_ok e11).trans ((pb_ok e13).trans ((pb_ok e15).trans ((pb_ok e17).trans (pb_er e20))))))))
    · intro S9 y9 i9 at9 rd9 nx9 hF9 e9 k9 t9 p9 g9 S11 hF11 e11 k11 p11 S13 y13 i13 at13 rd13 nx13 hF13 e13 k13 t13 p13 g13 S15 hF15 e15 k15 p15 S18 u18 kk18 z18 hF18 e18 k18 x18 w18
      exact h S18 _ (mEnd.err hF18 (((((k9.w (by omega) (by omega) (Nat.le_refl _)).tr (k11.w (by omega) (by omega) (Nat.le_refl _))).tr (k13.w (by omega) (by omega) (Nat.le_refl _))).tr (k15.w (by omega) (by omega) (Nat.le_refl _))).tr (k18.w (by omega) (by omega) (Nat.le_refl _))) x18 (eU.trans ((pb_ok e9).trans ((pb_ok e11).trans ((pb_ok e13).trans ((pb_ok e15).trans (pb_er e18)))))))
    · intro S9 y9 i9 at9 rd9 nx9 hF9 e9 k9 t9 p9 g9 S11 hF11 e11 k11 p11 S13 y13 i13 at13 rd13 nx13 hF13 e13 k13 t13 p13 g13 S16 hF16 e16 k16 x16
      exact h S16 _ (mEnd.err hF16 ((((k9.w (by omega) (by omega) (Nat.le_refl _)).tr (k11.w (by omega) (by omega) (Nat.le_refl _))).tr (k13.w (by omega) (by omega) (Nat.le_refl _))).tr (k16.w (by omega) (by omega) (Nat.le_refl _))) x16 (eU.trans ((pb_ok e9).trans ((pb_ok e11).trans ((pb_ok e13).trans (pb_er e16))))))
    · intro S9 y9 i9 at9 rd9 nx9 hF9 e9 k9 t9 p9 g9 S11 hF11 e11 k11 p11 S14 u14 kk14 z14 hF14 e14 k14 x14 w14
      exact h S14 _ (mEnd.err hF14 (((k9.w (by omega) (by omega) (Nat.le_refl _)).tr (k11.w (by omega) (by omega) (Nat.le_refl _))).tr (k14.w (by omega) (by omega) (Nat.le_refl _))) x14 (eU.trans ((pb_ok e9).trans ((pb_ok e11).trans (pb_er e14)))))
    · intro S9 y9 i9 at9 rd9 nx9 hF9 e9 k9 t9 p9 g9 S12 hF12 e12 k12 x12
      exact h S12 _ (mEnd.err hF12 ((k9.w (by omega) (by omega) (Nat.le_refl _)).tr (k12.w (by omega) (by omega) (Nat.le_refl _))) x12 (eU.trans ((pb_ok e9).trans (pb_er e12))))
    · intro S10 u10 kk10 z10 hF10 e10 k10 x10 w10
      exact h S10 _ (mEnd.err hF10 (k10.w (by omega) (by omega) (Nat.le_refl _)) x10 (eU.trans (pb_er e10)))
  · subst hk
    have eU : pIn tp sz rec 102 p deep at0 rd = (do
      let a ← rec (deep + 1) at0 rd
      let at1 ← pWant tp sz 44 a.2.1
      let b ← rec (deep + 1) at1 a.2.2
      let at3 ← pWant tp sz 41 b.2.1
      let x ← pJ (tN 10 0 [] p [a.1, b.1, tN 0 0 [] p []])
      .ok (x, at3, b.2.2)) := rfl
    refine ib_102 (B := B) (rec := rec) hF (by omega) p deep hP hp hdp hrd hs0 ha0 hB hB3 hwt hR ?_ ?_ ?_ ?_ ?_
    · intro S9 y9 i9 at9 rd9 nx9 hF9 e9 k9 t9 p9 g9 S11 hF11 e11 k11 p11 S13 y13 i13 at13 rd13 nx13 hF13 e13 k13 t13 p13 g13 S15 hF15 e15 k15 p15
      refine m_node (k := 10) (v := 0) (B := B) hF15 p15 (by omega) hB3 (by omega) (by omega) hp (fun S17 f17 k17 p17 o17 => ?_)
      show zEv d 151 294 _ [.int (Int32.ofNat nx13)] S17 post
      refine zEv.wk (by repeat' (first | exact trivial | exact Or.inl rfl | exact Or.inr rfl | refine ⟨?_, ?_⟩)) (ic294_102 (S := S17) f17 (by omega) p i9 i13 nx13 hp (by omega) (by omega) (by omega) ?_)
      refine m_node (k := 0) (v := 0) (B := B) f17 p17 (by omega) hB3 (by omega) (by omega) hp (fun S18 f18 k18 p18 o18 => ?_)
      show zEv d 151 310 _ [.int (Int32.ofNat (nx13 + 1)), .ref 1592] S18 post
      refine zEv.wk (by repeat' (first | exact trivial | exact Or.inl rfl | exact Or.inr rfl | refine ⟨?_, ?_⟩)) (ic310 (S := S18) f18 (by omega) i9 i13 nx13 (nx13 + 1) (by omega) (by omega) (by omega) (by omega) ?_)
      refine m_leaf (B := B) f18 (by omega) p18 (by omega) (by omega) o18 (by omega) (by omega) hp (fun S19 f19 k19 p19 t19 => ?_)
      show zEv d 151 313 _ [.int (Int32.ofNat (nx13 + 1))] S19 post
      refine zEv.wk (by repeat' (first | exact trivial | exact Or.inl rfl | exact Or.inr rfl | refine ⟨?_, ?_⟩)) (ic313 (S := S19) f19 (by omega) i9 i13 nx13 (nx13 + 1) (by omega) (by omega) (by omega) (by omega) ?_)
      have o19 : mOp S19 nx13 10 0 p [] := (o17.fr k18 (by omega)).fr k19 (by omega)
      have t9' : mT true S19 nx nx9 y9 i9 := (((((t9.fr k11 (Nat.le_refl _)).fr k13 (Nat.le_refl _)).fr k15 (by omega)).fr k17 (by omega)).fr k18 (by omega)).fr k19 (by omega)
      have t13' : mT true S19 nx9 nx13 y13 i13 := (((t13.fr k15 (Nat.le_refl _)).fr k17 (Nat.le_refl _)).fr k18 (by omega)).fr k19 (by omega)
      have hD : mDs S19 nx13 [y9, y13, tN 0 0 [] p []] [(i9, nx, nx9), (i13, nx9, nx13), (nx13 + 1, nx13 + 1, nx13 + 2)] := ⟨t9', Or.inr (by show nx9 ≤ nx13; omega), (fun q hq => by
        rcases List.mem_cons.mp hq with e | e
        · rw [e]; exact Or.inl (Nat.le_refl _)
        · rw [List.mem_singleton.mp e]; exact Or.inl (by show nx9 ≤ nx13 + 1; omega)), t13', Or.inr (Nat.le_refl _), (fun q hq => by rw [List.mem_singleton.mp hq]; exact Or.inl (by show nx13 ≤ nx13 + 1; omega)), t19, Or.inl (by show nx13 < nx13 + 1; omega), (fun q hq => by cases hq), trivial⟩
      refine m_put3 (B := B) (lo := nx) (hi := nx13 + 2) f19 (by omega) p19 (by omega) (by omega) (by omega) (by omega) (by omega) o19 hD (by omega) hp (Nat.le_refl _) (fun S' q m => ?_)
      refine h S' q (m.pre (((((((k9.w (by omega) (by omega) (Nat.le_refl _)).tr (k11.w (by omega) (by omega) (Nat.le_refl _))).tr (k13.w (by omega) (by omega) (Nat.le_refl _))).tr (k15.w (by omega) (by omega) (Nat.le_refl _))).tr (k17.w (by omega) (by omega) (Nat.le_refl _))).tr (k18.w (by omega) (by omega) (Nat.le_refl _))).tr (k19.w (by omega) (by omega) (Nat.le_refl _))) ?_ (fun x a b e => ?_))
      · refine eU.trans ((pb_ok e9).trans ((pb_ok e11).trans ((pb_ok e13).trans ((pb_ok e15).trans ?_))))
        show (pJ (tN 10 0 [] p [y9, y13, tN 0 0 [] p []]) >>= fun x => Except.ok (x, at13 + 1, rd13)) = _
        cases pJ (tN 10 0 [] p [y9, y13, tN 0 0 [] p []]) <;> rfl
      · have ea := pJ_cap e
        subst ea
        show nx13 + 2 ≤ nx + 2 * (at13 + 1 - at0)
        omega
    · intro S9 y9 i9 at9 rd9 nx9 hF9 e9 k9 t9 p9 g9 S11 hF11 e11 k11 p11 S13 y13 i13 at13 rd13 nx13 hF13 e13 k13 t13 p13 g13 S16 hF16 e16 k16 x16
      exact h S16 _ (mEnd.err hF16 ((((k9.w (by omega) (by omega) (Nat.le_refl _)).tr (k11.w (by omega) (by omega) (Nat.le_refl _))).tr (k13.w (by omega) (by omega) (Nat.le_refl _))).tr (k16.w (by omega) (by omega) (Nat.le_refl _))) x16 (eU.trans ((pb_ok e9).trans ((pb_ok e11).trans ((pb_ok e13).trans (pb_er e16))))))
    · intro S9 y9 i9 at9 rd9 nx9 hF9 e9 k9 t9 p9 g9 S11 hF11 e11 k11 p11 S14 u14 kk14 z14 hF14 e14 k14 x14 w14
      exact h S14 _ (mEnd.err hF14 (((k9.w (by omega) (by omega) (Nat.le_refl _)).tr (k11.w (by omega) (by omega) (Nat.le_refl _))).tr (k14.w (by omega) (by omega) (Nat.le_refl _))) x14 (eU.trans ((pb_ok e9).trans ((pb_ok e11).trans (pb_er e14)))))
    · intro S9 y9 i9 at9 rd9 nx9 hF9 e9 k9 t9 p9 g9 S12 hF12 e12 k12 x12
      exact h S12 _ (mEnd.err hF12 ((k9.w (by omega) (by omega) (Nat.le_refl _)).tr (k12.w (by omega) (by omega) (Nat.le_refl _))) x12 (eU.trans ((pb_ok e9).trans (pb_er e12))))
    · intro S10 u10 kk10 z10 hF10 e10 k10 x10 w10
      exact h S10 _ (mEnd.err hF10 (k10.w (by omega) (by omega) (Nat.le_refl _)) x10 (eU.trans (pb_er e10)))
end Q13

