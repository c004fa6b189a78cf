/-! the day against the twin: ends, losses -/
set_option maxRecDepth 100000
theorem rPh.p0 {a b : Int32} (h : rPh 0 a b) : a = 0 ∧ b = 0 := by
  rcases h with ⟨q, h⟩ | ⟨q, h⟩ | ⟨q, h⟩ | ⟨q, h⟩ | ⟨q, h⟩ | ⟨q, h⟩ | ⟨q, h⟩ <;> first | exact h | exact absurd q (by decide)
theorem rPh.p1 {a b : Int32} (h : rPh 1 a b) : a = 1 ∧ b = 0 := by
  rcases h with ⟨q, h⟩ | ⟨q, h⟩ | ⟨q, h⟩ | ⟨q, h⟩ | ⟨q, h⟩ | ⟨q, h⟩ | ⟨q, h⟩ <;> first | exact absurd q (by decide) | exact h
theorem rPh.p2 {a b : Int32} (h : rPh 2 a b) : a = 2 ∧ b = 0 := by
  rcases h with ⟨q, h⟩ | ⟨q, h⟩ | ⟨q, h⟩ | ⟨q, h⟩ | ⟨q, h⟩ | ⟨q, h⟩ | ⟨q, h⟩ <;> first | exact absurd q (by decide) | exact h
theorem rPh.p3 {a b : Int32} (h : rPh 3 a b) : a = 2 ∧ b = 1 := by
  rcases h with ⟨q, h⟩ | ⟨q, h⟩ | ⟨q, h⟩ | ⟨q, h⟩ | ⟨q, h⟩ | ⟨q, h⟩ | ⟨q, h⟩ <;> first | exact absurd q (by decide) | exact h
theorem rPh.p4 {a b : Int32} (h : rPh 4 a b) : a = 3 ∧ b = 0 := by
  rcases h with ⟨q, h⟩ | ⟨q, h⟩ | ⟨q, h⟩ | ⟨q, h⟩ | ⟨q, h⟩ | ⟨q, h⟩ | ⟨q, h⟩ <;> first | exact absurd q (by decide) | exact h
theorem rPh.two {p a b : Int32} (h : rPh p a b) : a = 2 ↔ (p = 2 ∨ p = 3) := by
  rcases h with ⟨q, h, -⟩ | ⟨q, h, -⟩ | ⟨q, h, -⟩ | ⟨q, h, -⟩ | ⟨q, h, -⟩ | ⟨q, h, -⟩ | ⟨q, h, -⟩ <;> (subst q; subst h; decide)
theorem rPh.zero {p a b : Int32} (h : rPh p a b) : a = 0 ↔ p = 0 := by
  rcases h with ⟨q, h, -⟩ | ⟨q, h, -⟩ | ⟨q, h, -⟩ | ⟨q, h, -⟩ | ⟨q, h, -⟩ | ⟨q, h, -⟩ | ⟨q, h, -⟩ <;> (subst q; subst h; decide)
theorem rPh.sh {p a b : Int32} (h : rPh p a b) : ¬ b = 0 ↔ p = 3 := by
  rcases h with ⟨q, -, h⟩ | ⟨q, -, h⟩ | ⟨q, -, h⟩ | ⟨q, -, h⟩ | ⟨q, -, h⟩ | ⟨q, -, h⟩ | ⟨q, -, h⟩ <;> (subst q; subst h; decide)
theorem rPh.over {p a b : Int32} (h : rPh p a b) : 4 ≤ a ↔ 5 ≤ p := by
  rcases h with ⟨q, h, -⟩ | ⟨q, h, -⟩ | ⟨q, h, -⟩ | ⟨q, h, -⟩ | ⟨q, h, -⟩ | ⟨q, h, -⟩ | ⟨q, h, -⟩ <;> (subst q; subst h; decide)
theorem rPh.five {p a b : Int32} (h : rPh p a b) : a = 5 ↔ p = 6 := by
  rcases h with ⟨q, h, -⟩ | ⟨q, h, -⟩ | ⟨q, h, -⟩ | ⟨q, h, -⟩ | ⟨q, h, -⟩ | ⟨q, h, -⟩ | ⟨q, h, -⟩ <;> (subst q; subst h; decide)
theorem rPh.room {p a b : Int32} (h : rPh p a b) : (a = 2 ∧ b = 0) ↔ p = 2 := by
  rcases h with ⟨q, h, g⟩ | ⟨q, h, g⟩ | ⟨q, h, g⟩ | ⟨q, h, g⟩ | ⟨q, h, g⟩ | ⟨q, h, g⟩ | ⟨q, h, g⟩ <;> (subst q; subst h; subst g; decide)
theorem R.nb {S : Sh} {P : Pl} {nw T : Nat} {x : DS} {y : TS} (h : R S P nw T x y) : P.nb ≤ 20 := h.1.2.1.2.1.1
theorem R_en1 {S : Sh} {P : Pl} {nw T m : Nat} {x : DS} {y : TS} {t : Int32} (h : R S P nw T x y) (hm : m < 3) : R S P nw T (dy_en1 t m x) (tw_fin1 t m y) := by
  have cm : (nI m).toNatClampNeg = m := nIc (by omega)
  have h0 := h
  have h20 := h.nb
  obtain ⟨h1, h2, hB, hM, hD, um, ud, hp⟩ := h
  obtain ⟨m1, m2, m3, m4⟩ := hM m hm
  unfold dy_en1 tw_fin1
  simp only [eG, tA, cm, m1]
  rcases m4 with e | ⟨mu, b, hb, e, ep⟩
  · rw [if_pos e, if_pos e]; exact h0
  · have cb : (nI b).toNatClampNeg = b := nIc (by omega)
    rw [e, if_neg (nIm (by omega)), if_neg (nIm (by omega)), mu]
    by_cases ht : y.2.2.1 44 m = t
    · rw [if_pos ht, if_pos ht]
      refine ⟨h1.k (by simp (disch := decide) only [rky_u]), h2, fun b' hb' => ?_, fun m' hm' => ?_, fun d hd => ?_, fun i j hi hj q => ?_, ud, hp⟩
      · by_cases e2 : b' = b
        · subst e2
          obtain ⟨⟨q1, q2, q3, q4, q5, q6, q7, q8, q9, q10⟩, ph, i1, i2, i3, i4, i5, i6⟩ := hB b' hb'
          have hz := i2 (Or.inr ep)
          rw [ep] at ph
          have hba := i4 (by rw [ep]; decide)
          refine ⟨?_, ?_, ?_⟩
          · simp [rBe, eU_r, eU_1, eI_1, eI_2, tU_r, tU_f, sI_1, sI_2, upd_r, cb, cm, q1, q2, q4, q5, q6, q7, q8, q10]
            rw [q9, hz]
          · have : rPh 2 2 (x.2.2 11 b') := by rw [ph.p1.2]; exact Or.inr (Or.inr (Or.inl ⟨rfl, rfl, rfl⟩))
            simpa [eU_r, eU_1, eI_1, eI_2, tU_r, tU_f, sI_1, sI_2, upd_r, cb, cm] using this
          · have : bI T 2 0 (y.2.2.1 34 b') (y.2.2.1 35 b') (y.2.2.1 37 b') (y.2.2.1 38 b') (y.2.2.1 39 b') (y.2.2.1 42 b') := ⟨⟨0, by omega, rfl⟩, fun _ => rfl, fun q => absurd q (by decide), fun _ => hba, i5, i6⟩
            simpa [eU_r, eU_1, eI_1, eI_2, tU_r, tU_f, sI_1, sI_2, upd_r, cb, cm] using this
        · have := hB b' hb'
          unfold rB rBe at this ⊢
          simpa [eU_r, eU_1, eI_1, eI_2, tU_r, tU_f, sI_1, sI_2, upd_r, cb, cm, e2] using this
      · by_cases e2 : m' = m
        · subst e2
          simp [rM, eU_r, eU_1, eI_1, eI_2, tU_r, tU_f, sI_1, sI_2, upd_r, cm, cb, m2, m3]
        · obtain ⟨n1, n2, n3, n4⟩ := hM m' hm'
          refine ⟨by simp [eU_r, eU_1, eI_1, eI_2, tU_r, tU_f, sI_1, sI_2, upd_r, cm, cb, e2, n1], by simp [eU_r, eU_1, eI_1, eI_2, tU_r, tU_f, sI_1, sI_2, upd_r, cm, cb, e2, n2], by simp [eU_r, eU_1, eI_1, eI_2, tU_r, tU_f, sI_1, sI_2, upd_r, cm, cb, e2, n3], ?_⟩
          rcases n4 with n4 | ⟨n4, b2, hb2, e3, e4⟩
          · exact Or.inl (by simp [eU_r, eU_1, eI_1, eI_2, tU_r, tU_f, sI_1, sI_2, upd_r, cm, cb, e2, n4])
          · have hne : ¬ b2 = b := fun q => by
              subst q
              rcases um m' m hm' hm (e3.trans e.symm) with q | q
              · exact e2 q
              · exact nIm (by omega) (e3.symm.trans q)
            exact Or.inr ⟨by simp [eU_r, eU_1, eI_1, eI_2, tU_r, tU_f, sI_1, sI_2, upd_r, cm, cb, e2, n4], b2, hb2, by simp [eU_r, eU_1, eI_1, eI_2, tU_r, tU_f, sI_1, sI_2, upd_r, cm, cb, e2, e3], by simp [eU_r, eU_1, eI_1, eI_2, tU_r, tU_f, sI_1, sI_2, upd_r, cm, cb, hne, e4]⟩
      · obtain ⟨n1, n2, n3, n4⟩ := hD d hd
        refine ⟨n1, n2, n3, ?_⟩
        rcases n4 with n4 | ⟨b2, hb2, e3, e4, e5, e6⟩ | ⟨b2, hb2, e3, e4, e5, e6, e7⟩
        · exact Or.inl n4
        · refine Or.inr (Or.inl ⟨b2, hb2, e3, e4, e5, ?_⟩)
          by_cases q : b2 = b
          · simp [eU_r, eU_1, eI_1, eI_2, tU_r, tU_f, sI_1, sI_2, upd_r, cb, q]
          · simpa [eU_r, eU_1, eI_1, eI_2, tU_r, tU_f, sI_1, sI_2, upd_r, cb, q] using e6
        · have hne : ¬ b2 = b := fun q => by
            subst q
            rw [ep] at e6; exact absurd e6 (by decide)
          exact Or.inr (Or.inr ⟨b2, hb2, e3, e4, e5, by simpa [eU_r, eU_1, eI_1, eI_2, tU_r, tU_f, sI_1, sI_2, upd_r, cb, hne] using e6, e7⟩)
      · by_cases ei : i = m
        · exact Or.inr (by simp [eU_r, eU_1, eI_1, eI_2, tU_r, tU_f, sI_1, sI_2, upd_r, cm, ei])
        · by_cases ej : j = m
          · subst ej
            exact Or.inr (by simpa [eU_r, eU_1, eI_1, eI_2, tU_r, tU_f, sI_1, sI_2, upd_r, cm, ei] using q)
          · have := um i j hi hj (by simpa [eU_r, eU_1, eI_1, eI_2, tU_r, tU_f, sI_1, sI_2, upd_r, cm, ei, ej] using q)
            simpa [eU_r, eU_1, eI_1, eI_2, tU_r, tU_f, sI_1, sI_2, upd_r, cm, ei] using this
    · rw [if_neg ht, if_neg ht]; exact h0
/-- deck d bakes -/
theorem rD.bk {S : Sh} {P : Pl} {nw T d : Nat} {x : DS} {y : TS} (h : R S P nw T x y) (hd : d < 4) : dy_bk x (nI d) ↔ ¬ y.2.2.1 48 d = -1 := by
  have cd : (nI d).toNatClampNeg = d := nIc (by omega)
  have h20 := h.nb
  obtain ⟨h1, h2, hB, hM, hD, um, ud, hp⟩ := h
  simp only [dy_bk, eG, cd]
  obtain ⟨n1, n2, n3, n4⟩ := hD d hd
  rcases n4 with ⟨e1, e2, e3⟩ | ⟨b, hb, e3, e4, e5, e6⟩ | ⟨b, hb, e3, e4, e5, e6, e7⟩
  · rw [e1, e3]
    exact ⟨fun q => absurd rfl q.1, fun q => absurd rfl q⟩
  · have cb : (nI b).toNatClampNeg = b := nIc (by omega)
    rw [e3, e5, cb]
    refine ⟨fun q => ?_, fun q => absurd rfl q⟩
    have := (hB b hb).2.1.two.mpr e6
    rw [this] at q
    exact absurd q.2 (by decide)
  · have cb : (nI b).toNatClampNeg = b := nIc (by omega)
    rw [e3, e5, cb]
    refine ⟨fun _ => nIm (by omega), fun _ => ⟨nIm (by omega), ?_⟩⟩
    have := (hB b hb).2.1
    rw [e6] at this
    exact this.p4.1
theorem R_en2 {S : Sh} {P : Pl} {nw T d t : Nat} {x : DS} {y : TS} (h : R S P nw T x y) (hd : d < 4) (ht0 : t < 1440) : R S P nw T (dy_en2 S P (nI t) d x) (tw_fin2 (nI t) d y) := by
  have cd : (nI d).toNatClampNeg = d := nIc (by omega)
  have h0 := h
  have h20 := h.nb
  have hbk := rD.bk h hd
  obtain ⟨h1, h2, hB, hM, hD, um, ud, hp⟩ := h
  unfold dy_en2 tw_fin2
  obtain ⟨n1, n2, n3, n4⟩ := hD d hd
  by_cases hy : y.2.2.1 48 d = -1
  · rw [if_neg (fun q => hbk.mp q hy), if_pos (show tA y 48 (nI d) = -1 by simp only [tA, cd]; exact hy)]
    exact h0
  · rw [if_pos (hbk.mpr hy), if_neg (show ¬ tA y 48 (nI d) = -1 by simp only [tA, cd]; exact hy)]
    rcases n4 with ⟨e1, e2, e3⟩ | ⟨b, hb, e3, e4, e5, e6⟩ | ⟨b, hb, e3, e4, e5, e6, e7⟩
    · exact absurd e3 hy
    · exact absurd e5 hy
    · have cb : (nI b).toNatClampNeg = b := nIc (by omega)
      simp only [eG, tA, cd, e3, e5, cb]
      have q5 := (hB b hb).1.2.2.2.2.1
      rw [q5, e7]
      by_cases ht : y.2.2.1 38 b + bkT S P b = nI t
      · rw [if_pos ht, if_pos (show _ + (pX S P (nI b)).2.2.2.2.2.1 = _ from ht)]
        refine ⟨h1.k (by simp (disch := decide) only [rky_u]), h2, fun b' hb' => ?_, fun m' hm' => ?_, fun d' hd' => ?_, um, fun i j hi hj q => ?_, fun i hi hi4 => ?_⟩
        · by_cases e2 : b' = b
          · subst e2
            obtain ⟨⟨q1, q2, q3, q4, q5, q6, q7, q8, q9, q10⟩, ph, i1, i2, i3, i4, i5, i6⟩ := hB b' hb'
            rw [e6] at ph
            refine ⟨?_, ?_, ?_⟩
            · simp [rBe, eU_r, eU_1, eI_1, eI_2, tU_r, tU_f, sI_1, sI_2, upd_r, cb, cd, q1, q2, q3, q4, q5, q7, q8, q9, q10]
            · have : rPh 5 4 (x.2.2 11 b') := by rw [ph.p4.2]; exact Or.inr (Or.inr (Or.inr (Or.inr (Or.inr (Or.inl ⟨rfl, rfl, rfl⟩)))))
              simpa [eU_r, eU_1, eI_1, eI_2, tU_r, tU_f, sI_1, sI_2, upd_r, cb, cd] using this
            · have : bI T 5 (y.2.2.1 33 b') (y.2.2.1 34 b') (y.2.2.1 35 b') (y.2.2.1 37 b') (y.2.2.1 38 b') (nI t) (y.2.2.1 42 b') := ⟨i1, fun q => by rcases q with q | q <;> exact absurd q (by decide), fun _ => ⟨t, ht0, rfl⟩, fun q => absurd rfl q, i5, i6⟩
              simpa [eU_r, eU_1, eI_1, eI_2, tU_r, tU_f, sI_1, sI_2, upd_r, cb, cd] using this
          · have := hB b' hb'
            unfold rB rBe at this ⊢
            simpa [eU_r, eU_1, eI_1, eI_2, tU_r, tU_f, sI_1, sI_2, upd_r, cb, cd, e2] using this
        · obtain ⟨k1, k2, k3, k4⟩ := hM m' hm'
          refine ⟨k1, k2, k3, ?_⟩
          rcases k4 with k4 | ⟨k4, b2, hb2, f3, f4⟩
          · exact Or.inl k4
          · have hne : ¬ b2 = b := fun q => by subst q; rw [e6] at f4; exact absurd f4 (by decide)
            exact Or.inr ⟨k4, b2, hb2, f3, by simpa [eU_r, eU_1, eI_1, eI_2, tU_r, tU_f, sI_1, sI_2, upd_r, cb, hne] using f4⟩
        · by_cases e2 : d' = d
          · subst e2
            exact ⟨n1, n2, n3, Or.inl ⟨by simp [eU_r, eU_1, eI_1, eI_2, tU_r, tU_f, sI_1, sI_2, upd_r, cd], e4, by simp [eU_r, eU_1, eI_1, eI_2, tU_r, tU_f, sI_1, sI_2, upd_r, cd]⟩⟩
          · obtain ⟨k1, k2, k3, k4⟩ := hD d' hd'
            refine ⟨k1, k2, k3, ?_⟩
            rcases k4 with ⟨f1, f2, f3⟩ | ⟨b2, hb2, f3, f4, f5, f6⟩ | ⟨b2, hb2, f3, f4, f5, f6, f7⟩
            · exact Or.inl ⟨by simp [eU_r, eU_1, eI_1, eI_2, tU_r, tU_f, sI_1, sI_2, upd_r, cd, e2, f1], f2, by simp [eU_r, eU_1, eI_1, eI_2, tU_r, tU_f, sI_1, sI_2, upd_r, cd, e2, f3]⟩
            · have hne : ¬ b2 = b := fun q => by subst q; rw [e6] at f6; exact absurd f6 (by decide)
              exact Or.inr (Or.inl ⟨b2, hb2, by simp [eU_r, eU_1, eI_1, eI_2, tU_r, tU_f, sI_1, sI_2, upd_r, cd, e2, f3], f4, by simp [eU_r, eU_1, eI_1, eI_2, tU_r, tU_f, sI_1, sI_2, upd_r, cd, e2, f5], by simpa [eU_r, eU_1, eI_1, eI_2, tU_r, tU_f, sI_1, sI_2, upd_r, cb, hne] using f6⟩)
            · have hne : ¬ b2 = b := fun q => by
                subst q
                rcases ud d' d hd' hd (f3.trans e3.symm) with q | q
                · exact e2 q
                · exact nIm (by omega) (f3.symm.trans q)
              exact Or.inr (Or.inr ⟨b2, hb2, by simp [eU_r, eU_1, eI_1, eI_2, tU_r, tU_f, sI_1, sI_2, upd_r, cd, e2, f3], f4, by simp [eU_r, eU_1, eI_1, eI_2, tU_r, tU_f, sI_1, sI_2, upd_r, cd, e2, f5], by simpa [eU_r, eU_1, eI_1, eI_2, tU_r, tU_f, sI_1, sI_2, upd_r, cb, hne] using f6, f7⟩)
        · by_cases ei : i = d
          · exact Or.inr (by simp [eU_r, eU_1, eI_1, eI_2, tU_r, tU_f, sI_1, sI_2, upd_r, cd, ei])
          · by_cases ej : j = d
            · subst ej
              exact Or.inr (by simpa [eU_r, eU_1, eI_1, eI_2, tU_r, tU_f, sI_1, sI_2, upd_r, cd, ei] using q)
            · have := ud i j hi hj (by simpa [eU_r, eU_1, eI_1, eI_2, tU_r, tU_f, sI_1, sI_2, upd_r, cd, ei, ej] using q)
              simpa [eU_r, eU_1, eI_1, eI_2, tU_r, tU_f, sI_1, sI_2, upd_r, cd, ei] using this
        · by_cases ei : i = d
          · simp [eU_r, eU_1, eI_1, eI_2, tU_r, tU_f, sI_1, sI_2, upd_r, cd, ei]
          · simpa [eU_r, eU_1, eI_1, eI_2, tU_r, tU_f, sI_1, sI_2, upd_r, cd, ei] using hp i hi hi4
      · rw [if_neg ht, if_neg (show ¬ _ + (pX S P (nI b)).2.2.2.2.2.1 = _ from ht)]; exact h0
theorem it_sim {σ τ : Type} (Q : σ → τ → Prop) {f : Nat → σ → σ} {g : Nat → τ → τ} {x : σ} {y : τ} (h0 : Q x y) (N : Nat) (h : ∀ i x y, i < N → Q x y → Q (f i x) (g i y)) : ∀ n, n ≤ N → Q (it f n x) (it g n y) := by
  intro n
  induction n with
  | zero => intro _; exact h0
  | succ n ih => intro hn; exact h n _ _ hn (ih (by omega))
theorem R.qm {S : Sh} {P : Pl} {nw T : Nat} {x : DS} {y : TS} (h : R S P nw T x y) : qm P ≤ 3 := h.1.2.1.1.2.1.2.2
theorem R.qd {S : Sh} {P : Pl} {nw T : Nat} {x : DS} {y : TS} (h : R S P nw T x y) : qd P ≤ 4 := h.1.2.1.1.2.2.1.2.2
theorem R_end1 {S : Sh} {P : Pl} {nw T n : Nat} {x : DS} {y : TS} {t : Int32} (h : R S P nw T x y) (hn : n ≤ qm P) : R S P nw T (it (dy_en1 t) n x) (it (tw_fin1 t) n y) := by
  refine it_sim (f := dy_en1 t) (g := (tw_fin1 t)) (fun x y => R S P nw T x y) h (qm P) ?_ n hn
  intro i x y hi q
  exact R_en1 q (Nat.lt_of_lt_of_le hi (R.qm q))
theorem R_end2 {S : Sh} {P : Pl} {nw T t n : Nat} {x : DS} {y : TS} (h : R S P nw T x y) (ht : t < 1440) (hn : n ≤ qd P) : R S P nw T (it (dy_en2 S P (nI t)) n x) (it (tw_fin2 (nI t)) n y) := by
  refine it_sim (f := dy_en2 S P (nI t)) (g := (tw_fin2 (nI t))) (fun x y => R S P nw T x y) h (qd P) ?_ n hn
  intro i x y hi q
  exact R_en2 q (Nat.lt_of_lt_of_le hi (R.qd q)) ht
theorem R_end {S : Sh} {P : Pl} {nw T t : Nat} {x : DS} {y : TS} (h : R S P nw T x y) (ht : t < 1440) : R S P nw T (dy_end S P (nI t) x) (tw_fin (nI t) y) := by
  unfold dy_end tw_fin
  rw [h.1.hm, h.1.hd]
  exact R_end2 (R_end1 h (Nat.le_refl _)) ht (Nat.le_refl _)
/-- the losses: decks that were kept for a lost batch -/
theorem dy_un_at {b : Int32} {x : DS} : ∀ n, n ≤ 4 → (it (dy_un1 b) n x).1 = x.1 ∧ (it (dy_un1 b) n x).2.1 = x.2.1 ∧ (∀ j, ¬ j = 16 → (it (dy_un1 b) n x).2.2 j = x.2.2 j) ∧ ∀ d, (it (dy_un1 b) n x).2.2 16 d = if d < n ∧ x.2.2 16 d = b then -1 else x.2.2 16 d := by
  intro n
  induction n with
  | zero => intro _; exact ⟨rfl, rfl, fun _ _ => rfl, fun d => by rw [if_neg (by omega)]; rfl⟩
  | succ n ih =>
    intro hn
    have cn : (nI n).toNatClampNeg = n := nIc (by omega)
    obtain ⟨h1, h2, h3, h4⟩ := ih (by omega)
    rw [it]
    generalize it (dy_un1 b) n x = z at h1 h2 h3 h4
    unfold dy_un1
    simp only [eG, cn]
    have hz : z.2.2 16 n = x.2.2 16 n := by rw [h4, if_neg (by omega)]
    split
    · rename_i c
      refine ⟨h1, h2, fun j hj => by rw [eU_r, if_neg hj]; exact h3 j hj, fun d => ?_⟩
      rw [eU_r, if_pos rfl, cn, upd_r]
      by_cases e : d = n
      · rw [if_pos e, if_pos ⟨by omega, by rw [e, ← hz]; exact c⟩]
      · rw [if_neg e, h4]
        by_cases e2 : d < n ∧ x.2.2 16 d = b
        · rw [if_pos e2, if_pos ⟨by omega, e2.2⟩]
        · rw [if_neg e2, if_neg (fun q => e2 ⟨by omega, q.2⟩)]
    · rename_i c
      refine ⟨h1, h2, fun j hj => by rw [eU_r, if_neg hj]; exact h3 j hj, fun d => ?_⟩
      rw [eU_r, if_pos rfl, cn, upd_r]
      by_cases e : d = n
      · rw [if_pos e, hz, if_neg (fun q => c (by rw [hz, ← e]; exact q.2)), e]
      · rw [if_neg e, h4]
        by_cases e2 : d < n ∧ x.2.2 16 d = b
        · rw [if_pos e2, if_pos ⟨by omega, e2.2⟩]
        · rw [if_neg e2, if_neg (fun q => e2 ⟨by omega, q.2⟩)]
theorem tw_un_at {b : Int32} {x : TS} : ∀ n, n ≤ 4 → (it (tw_unr1 b) n x).1 = x.1 ∧ (∀ j, ¬ j = 47 → (it (tw_unr1 b) n x).2.2.1 j = x.2.2.1 j) ∧ ∀ d, (it (tw_unr1 b) n x).2.2.1 47 d = if d < n ∧ x.2.2.1 47 d = b then -1 else x.2.2.1 47 d := by
  intro n
  induction n with
  | zero => intro _; exact ⟨rfl, fun _ _ => rfl, fun d => by rw [if_neg (by omega)]; rfl⟩
  | succ n ih =>
    intro hn
    have cn : (nI n).toNatClampNeg = n := nIc (by omega)
    obtain ⟨h1, h3, h4⟩ := ih (by omega)
    rw [it]
    generalize it (tw_unr1 b) n x = z at h1 h3 h4
    unfold tw_unr1
    simp only [tA, cn]
    have hz : z.2.2.1 47 n = x.2.2.1 47 n := by rw [h4, if_neg (by omega)]
    split
    · rename_i c
      refine ⟨h1, fun j hj => by rw [tU_r, if_neg hj]; exact h3 j hj, fun d => ?_⟩
      rw [tU_r, if_pos rfl, cn, upd_r]
      by_cases e : d = n
      · rw [if_pos e, if_pos ⟨by omega, by rw [e, ← hz]; exact c⟩]
      · rw [if_neg e, h4]
        by_cases e2 : d < n ∧ x.2.2.1 47 d = b
        · rw [if_pos e2, if_pos ⟨by omega, e2.2⟩]
        · rw [if_neg e2, if_neg (fun q => e2 ⟨by omega, q.2⟩)]
    · rename_i c
      refine ⟨h1, h3, fun d => ?_⟩
      rw [h4]
      by_cases e : d = n
      · rw [if_neg (by omega), if_neg (fun q => c (by rw [hz, ← e]; exact q.2))]
      · by_cases e2 : d < n ∧ x.2.2.1 47 d = b
        · rw [if_pos e2, if_pos ⟨by omega, e2.2⟩]
        · rw [if_neg e2, if_neg (fun q => e2 ⟨by omega, q.2⟩)]
theorem R_sp1 {S : Sh} {P : Pl} {nw T b : Nat} {x : DS} {y : TS} {t : Int32} (h : R S P nw T x y) (hb : b < P.nb) : R S P nw T (dy_sp1 S P t b x) (tw_los1 t b y) := by
  have h0 := h
  have h20 := h.nb
  have hqd := h.qd
  have cb : (nI b).toNatClampNeg = b := nIc (by omega)
  obtain ⟨h1, h2, hB, hM, hD, um, ud, hp⟩ := h
  obtain ⟨r, o, r1, r2, r3, r4, r5, r6, r7⟩ := h1.ripe hb
  obtain ⟨⟨q1, q2, q3, q4, q5, q6, q7, q8, q9, q10⟩, ph, i1, i2, i3, i4, i5, i6⟩ := hB b hb
  unfold dy_sp1 tw_los1
  simp only [eG, tA, cb, r6, r7, q9]
  by_cases hpl : y.2.2.1 32 b = 2 ∨ y.2.2.1 32 b = 3
  · rw [if_pos (ph.two.mpr hpl), if_pos hpl]
    by_cases ho : nI o < y.2.2.1 33 b
    · rw [if_pos ho, if_pos ho]
      unfold dy_un tw_unr
      have kk : tK (tU (tU y 32 (nI b) 6) 40 (nI b) t) = tK y := by simp (disch := decide) only [tK_u]
      rw [pd_k kk, h1.hd]
      obtain ⟨u1, u2, u3, u4⟩ := dy_un_at (b := nI b) (x := eU (eU (eU x 0 (nI b) 5) 7 (nI b) t) 11 (nI b) 0) 4 (Nat.le_refl _)
      obtain ⟨v1, v3, v4⟩ := tw_un_at (b := nI b) (x := tU (tU y 32 (nI b) 6) 40 (nI b) t) (qd P) hqd
      generalize it (dy_un1 (nI b)) 4 (eU (eU (eU x 0 (nI b) 5) 7 (nI b) t) 11 (nI b) 0) = x' at u1 u2 u3 u4
      generalize it (tw_unr1 (nI b)) (qd P) (tU (tU y 32 (nI b) 6) 40 (nI b) t) = y' at v1 v3 v4
      have u5 : ∀ d, x'.2.2 16 d = if d < 4 ∧ x.2.2 16 d = nI b then -1 else x.2.2 16 d := u4
      have v5 : ∀ d, y'.2.2.1 47 d = if d < qd P ∧ y.2.2.1 47 d = nI b then -1 else y.2.2.1 47 d := v4
      have hk : rky y' = rky y := by
        unfold rky tK
        rw [v1, v3 1 (by decide), v3 6 (by decide), v3 7 (by decide), v3 8 (by decide), v3 9 (by decide), v3 10 (by decide), v3 11 (by decide), v3 14 (by decide)]
        rfl
      have X : ∀ j b', ¬ j = 16 → ¬ b' = b → x'.2.2 j b' = x.2.2 j b' := by
        intro j b' hj hb'
        rw [u3 j hj]
        simp only [eU_r, eU_1, eI_1, eI_2, tU_r, tU_f, sI_1, sI_2, upd_r, cb]
        repeat' split
        all_goals first | rfl | (exfalso; omega) | (subst_vars; exact if_neg hb')
      have Y : ∀ j b', ¬ j = 47 → ¬ b' = b → y'.2.2.1 j b' = y.2.2.1 j b' := by
        intro j b' hj hb'
        rw [v3 j hj]
        simp only [eU_r, eU_1, eI_1, eI_2, tU_r, tU_f, sI_1, sI_2, upd_r, cb]
        repeat' split
        all_goals first | rfl | (exfalso; omega) | (subst_vars; exact if_neg hb')
      have Y2 : ∀ j, ¬ j = 47 → ¬ j = 32 → ¬ j = 40 → y'.2.2.1 j = y.2.2.1 j := by
        intro j hj h32 h40
        rw [v3 j hj]
        simp only [eU_r, eU_1, eI_1, eI_2, tU_r, tU_f, sI_1, sI_2, upd_r, if_neg h32, if_neg h40]
      have X2 : ∀ j, ¬ j = 16 → ¬ j = 0 → ¬ j = 7 → ¬ j = 11 → x'.2.2 j = x.2.2 j := by
        intro j hj h0 h7 h11
        rw [u3 j hj]
        simp only [eU_r, eU_1, eI_1, eI_2, tU_r, tU_f, sI_1, sI_2, upd_r, if_neg h0, if_neg h7, if_neg h11]
      have y32 : y'.2.2.1 32 b = 6 := by rw [v3 32 (by decide)]; simp [eU_r, eU_1, eI_1, eI_2, tU_r, tU_f, sI_1, sI_2, upd_r, cb]
      refine ⟨h1.k hk, ⟨?_, ?_, ?_⟩, fun b' hb' => ?_, fun m' hm' => ?_, fun d' hd' => ?_, ?_, fun i j hi hj q => ?_, fun i hi hi4 => ?_⟩
      · rw [u1]; exact h2.1
      · rw [u1, v1]; exact h2.2.1
      · rw [u1, v1]; exact h2.2.2
      · by_cases e2 : b' = b
        · subst e2
          refine ⟨?_, ?_, ?_⟩
          · unfold rBe
            rw [X2 1 (by decide) (by decide) (by decide) (by decide), X2 2 (by decide) (by decide) (by decide) (by decide), X2 3 (by decide) (by decide) (by decide) (by decide), X2 4 (by decide) (by decide) (by decide) (by decide), X2 5 (by decide) (by decide) (by decide) (by decide), X2 6 (by decide) (by decide) (by decide) (by decide), X2 8 (by decide) (by decide) (by decide) (by decide), X2 9 (by decide) (by decide) (by decide) (by decide), X2 10 (by decide) (by decide) (by decide) (by decide), Y2 34 (by decide) (by decide) (by decide), Y2 35 (by decide) (by decide) (by decide), Y2 36 (by decide) (by decide) (by decide), Y2 37 (by decide) (by decide) (by decide), Y2 38 (by decide) (by decide) (by decide), Y2 39 (by decide) (by decide) (by decide), Y2 41 (by decide) (by decide) (by decide), Y2 33 (by decide) (by decide) (by decide), Y2 42 (by decide) (by decide) (by decide), u3 7 (by decide), v3 40 (by decide)]
            refine ⟨q1, q2, q3, q4, q5, q6, ?_, q8, q9, q10⟩
            simp [eU_r, eU_1, eI_1, eI_2, tU_r, tU_f, sI_1, sI_2, upd_r, cb]
          · rw [y32, u3 0 (by decide), u3 11 (by decide)]
            have : rPh 6 5 0 := Or.inr (Or.inr (Or.inr (Or.inr (Or.inr (Or.inr ⟨rfl, rfl, rfl⟩)))))
            simpa [eU_r, eU_1, eI_1, eI_2, tU_r, tU_f, sI_1, sI_2, upd_r, cb] using this
          · rw [y32, Y2 34 (by decide) (by decide) (by decide), Y2 35 (by decide) (by decide) (by decide), Y2 37 (by decide) (by decide) (by decide), Y2 38 (by decide) (by decide) (by decide), Y2 39 (by decide) (by decide) (by decide), Y2 33 (by decide) (by decide) (by decide), Y2 42 (by decide) (by decide) (by decide)]
            exact ⟨i1, fun q => by rcases q with q | q <;> exact absurd q (by decide), fun q => absurd q (by decide), fun _ => i4 (by rcases hpl with q | q <;> (rw [q]; decide)), i5, i6⟩
        · have := hB b' hb'
          unfold rB rBe at this ⊢
          rw [X 0 b' (by decide) e2, X 1 b' (by decide) e2, X 2 b' (by decide) e2, X 3 b' (by decide) e2, X 4 b' (by decide) e2, X 5 b' (by decide) e2, X 6 b' (by decide) e2, X 7 b' (by decide) e2, X 8 b' (by decide) e2, X 9 b' (by decide) e2, X 10 b' (by decide) e2, X 11 b' (by decide) e2, Y 32 b' (by decide) e2, Y 33 b' (by decide) e2, Y 34 b' (by decide) e2, Y 35 b' (by decide) e2, Y 36 b' (by decide) e2, Y 37 b' (by decide) e2, Y 38 b' (by decide) e2, Y 39 b' (by decide) e2, Y 40 b' (by decide) e2, Y 41 b' (by decide) e2, Y 42 b' (by decide) e2]
          exact this
      · obtain ⟨k1, k2, k3, k4⟩ := hM m' hm'
        unfold rM
        rw [X2 12 (by decide) (by decide) (by decide) (by decide), X2 13 (by decide) (by decide) (by decide) (by decide), X2 14 (by decide) (by decide) (by decide) (by decide), X2 15 (by decide) (by decide) (by decide) (by decide), Y2 43 (by decide) (by decide) (by decide), Y2 44 (by decide) (by decide) (by decide), Y2 45 (by decide) (by decide) (by decide), Y2 46 (by decide) (by decide) (by decide)]
        refine ⟨k1, k2, k3, ?_⟩
        rcases k4 with k4 | ⟨k4, b2, hb2, f3, f4⟩
        · exact Or.inl k4
        · have hne : ¬ b2 = b := fun q => by
            subst q
            rcases hpl with q | q <;> (rw [q] at f4; exact absurd f4 (by decide))
          exact Or.inr ⟨k4, b2, hb2, f3, by rw [Y 32 b2 (by decide) hne]; exact f4⟩
      · obtain ⟨k1, k2, k3, k4⟩ := hD d' hd'
        unfold rD
        rw [X2 17 (by decide) (by decide) (by decide) (by decide), X2 18 (by decide) (by decide) (by decide) (by decide), Y2 48 (by decide) (by decide) (by decide), Y2 49 (by decide) (by decide) (by decide), Y2 50 (by decide) (by decide) (by decide), Y2 51 (by decide) (by decide) (by decide), Y2 38 (by decide) (by decide) (by decide), u5, v5]
        refine ⟨k1, k2, k3, ?_⟩
        rcases k4 with ⟨f1, f2, f3⟩ | ⟨b2, hb2, f3, f4, f5, f6⟩ | ⟨b2, hb2, f3, f4, f5, f6, f7⟩
        · refine Or.inl ⟨?_, ?_, f3⟩
          · rw [if_neg (fun q => nIm (by omega) (q.2.symm.trans f1))]; exact f1
          · rw [if_neg (fun q => nIm (by omega) (q.2.symm.trans f2))]; exact f2
        · by_cases e3 : b2 = b
          · subst e3
            refine Or.inl ⟨if_pos ⟨hd', f3⟩, if_pos ⟨?_, f4⟩, f5⟩
            exact Nat.not_le.mp (fun q => nIm (by omega) (f3.symm.trans (hp d' q hd')))
          · have n1 : ¬ nI b2 = nI b := fun q => e3 (nIi (by omega) (by omega) q)
            refine Or.inr (Or.inl ⟨b2, hb2, ?_, ?_, f5, ?_⟩)
            · rw [if_neg (fun q => n1 (f3.symm.trans q.2))]; exact f3
            · rw [if_neg (fun q => n1 (f4.symm.trans q.2))]; exact f4
            · rw [Y 32 b2 (by decide) e3]; exact f6
        · have e3 : ¬ b2 = b := fun q => by
            subst q
            rcases hpl with q | q <;> (rw [q] at f6; exact absurd f6 (by decide))
          have n1 : ¬ nI b2 = nI b := fun q => e3 (nIi (by omega) (by omega) q)
          refine Or.inr (Or.inr ⟨b2, hb2, ?_, ?_, f5, ?_, f7⟩)
          · rw [if_neg (fun q => n1 (f3.symm.trans q.2))]; exact f3
          · rw [if_neg (fun q => nIm (by omega) (q.2.symm.trans f4))]; exact f4
          · rw [Y 32 b2 (by decide) e3]; exact f6
      · rw [Y2 43 (by decide) (by decide) (by decide)]; exact um
      · rw [u5 i] at q ⊢
        rw [u5 j] at q
        by_cases ei : i < 4 ∧ x.2.2 16 i = nI b
        · exact Or.inr (if_pos ei)
        · rw [if_neg ei] at q ⊢
          by_cases ej : j < 4 ∧ x.2.2 16 j = nI b
          · rw [if_pos ej] at q; exact Or.inr q
          · rw [if_neg ej] at q; exact ud i j hi hj q
      · rw [u5, if_neg (fun q => nIm (by omega) (q.2.symm.trans (hp i hi hi4)))]; exact hp i hi hi4
    · rw [if_neg ho, if_neg ho]; exact h0
  · rw [if_neg (fun q => hpl (ph.two.mp q)), if_neg hpl]; exact h0
theorem R_spoN {S : Sh} {P : Pl} {nw T n : Nat} {x : DS} {y : TS} {t : Int32} (h : R S P nw T x y) (hn : n ≤ P.nb) : R S P nw T (it (dy_sp1 S P t) n x) (it (tw_los1 t) n y) := by
  refine it_sim (f := dy_sp1 S P t) (g := (tw_los1 t)) (fun x y => R S P nw T x y) h P.nb ?_ n hn
  intro i x y hi q
  exact R_sp1 q hi
theorem R_spo {S : Sh} {P : Pl} {nw T : Nat} {x : DS} {y : TS} {t : Int32} (h : R S P nw T x y) : R S P nw T (dy_spo S P t x) (tw_los t y) := by
  unfold dy_spo tw_los
  rw [h.1.2.2.2.1]
  exact R_spoN h (Nat.le_refl _)
