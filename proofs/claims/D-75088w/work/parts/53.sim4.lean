/-! the day against the twin: mixing, growing, a minute, the beginning, the end -/
set_option maxRecDepth 100000
theorem ff_iff {p q : Nat → Prop} [DecidablePred p] [DecidablePred q] {n : Nat} (h : ∀ b, b < n → (p b ↔ q b)) : ff p n = ff q n := by
  induction n with
  | zero => rfl
  | succ n ih =>
    rw [ff, ff, ih (fun b hb => h b (by omega))]
    by_cases e : q n
    · rw [if_pos e, if_pos ((h n (by omega)).mpr e)]
    · rw [if_neg e, if_neg (fun z => e ((h n (by omega)).mp z))]
theorem ff_spec {p : Nat → Prop} [DecidablePred p] {n : Nat} : ff p n = -1 ∨ ∃ k, k < n ∧ ff p n = nI k ∧ p k := by
  induction n with
  | zero => exact Or.inl rfl
  | succ n ih =>
    rw [ff]
    split
    · split
      · rename_i c; exact Or.inr ⟨n, by omega, rfl, c⟩
      · exact Or.inl rfl
    · rcases ih with q | ⟨k, k1, k2, k3⟩
      · exact Or.inl q
      · exact Or.inr ⟨k, by omega, k2, k3⟩
theorem R_nx {S : Sh} {P : Pl} {nw T : Nat} {x : DS} {y : TS} {t : Int32} (h : R S P nw T x y) : dy_nx P t x = tw_next t y ∧ (tw_next t y = -1 ∨ ∃ k, k < P.nb ∧ tw_next t y = nI k ∧ y.2.2.1 32 k = 0) := by
  have h20 := h.nb
  unfold dy_nx tw_next
  rw [h.1.2.2.2.1]
  constructor
  · refine ff_iff (fun b hb => ?_)
    have cb : (nI b).toNatClampNeg = b := nIc (by omega)
    obtain ⟨p, s, v, dg, mx, pr, wi, bk, ht, g0, rg, e1, e2, e3, e4, e5, e6⟩ := h.1.b hb
    rw [e4, cb, e1]
    simp only [eG, tA, cb]
    rw [(h.2.2.1 b hb).2.1.zero, Int32.not_lt]
  · rcases ff_spec (p := fun b => tA y 32 (nI b) = 0 ∧ ¬ t < tB y (nI b) 1) (n := P.nb) with q | ⟨k, k1, k2, k3, -⟩
    · exact Or.inl q
    · refine Or.inr ⟨k, k1, k2, ?_⟩
      simp only [tA, nIc (show k < 100000 by omega)] at k3
      exact k3
theorem R_mxD {S : Sh} {P : Pl} {nw T m b f : Nat} {x : DS} {y : TS} (h : R S P nw T x y) (hm : m < 3) (hb : b < P.nb) (hpl : y.2.2.1 32 b = 0) (h43 : y.2.2.1 43 m = -1) (hf : f ≤ 2000) : R S P nw T (dy_mxD S P (nI m) (nI b) (nI f) x) (tw_mixD (nI m) (nI b) (tB y (nI b) 0) (nI f) y) := by
  have h20 := h.nb
  have cb : (nI b).toNatClampNeg = b := nIc (by omega)
  have cm : (nI m).toNatClampNeg = m := nIc (by omega)
  obtain ⟨h1, h2, hB, hM, hD, um, ud, hp⟩ := h
  obtain ⟨p, s, v, dg, mx, pr, wi, bk, ht, g0, rg, e1, e2, e3, e4, e5, e6, e7, -⟩ := h1.b hb
  have cp : (nI p).toNatClampNeg = p := nIc (by omega)
  have x1 := pX_of (S := S) (k := b) (by omega) (by omega) e1 e2
  have x2 : (pX S P (nI b)).2.1 = nI dg := by rw [x1]
  have x3 : (pX S P (nI b)).2.2.1 = nI mx := by rw [x1]
  have e6' : y.2.2.1 6 p = nI dg := by have := e6; simp only [tA, cp] at this; exact this
  have e7' : y.2.2.1 7 p = nI mx := by have := e7; simp only [tA, cp] at this; exact this
  obtain ⟨m1, m2, m3, -⟩ := hM m hm
  obtain ⟨⟨q1, q2, q3, q4, q5, q6, q7, q8, q9, q10⟩, ph, i1, i2, i3, i4, i5, i6⟩ := hB b hb
  have ph0 := ph
  rw [hpl] at ph0
  unfold dy_mxD tw_mixD
  rw [e3, x2, x3]
  refine ⟨h1.k (by simp (disch := decide) only [rky_u]), h2, fun b' hb' => ?_, fun m' hm' => ?_, fun d' hd' => ?_, fun i j hi hj q => ?_, ud, hp⟩
  · by_cases e2 : b' = b
    · subst e2
      refine ⟨?_, ?_, ?_⟩
      · simp [rBe, eU_r, eU_1, eI_1, eI_2, tU_r, tU_f, sI_1, sI_2, upd_r, cb, cm, q3, q4, q5, q6, q7, q8, q9, q10]
      · have : rPh 1 1 (x.2.2 11 b') := by rw [ph0.p0.2]; exact Or.inr (Or.inl ⟨rfl, rfl, rfl⟩)
        simpa [eU_r, eU_1, eI_1, eI_2, tU_r, tU_f, sI_1, sI_2, upd_r, cb, cm] using this
      · have : bI T 1 (y.2.2.1 33 b') (nI m) (nI f) (y.2.2.1 37 b') (y.2.2.1 38 b') (y.2.2.1 39 b') (y.2.2.1 42 b') := ⟨i1, fun _ => i2 (Or.inl hpl), fun q => absurd q (by decide), fun _ => i4 (by rw [hpl]; decide), Or.inr ⟨⟨m, hm, rfl⟩, ⟨f, hf, rfl⟩⟩, i6⟩
        simpa [eU_r, eU_1, eI_1, eI_2, tU_r, tU_f, sI_1, sI_2, upd_r, cb, cm] using this
    · have := hB b' hb'
      unfold rB rBe at this ⊢
      simpa [eU_r, eU_1, eI_1, eI_2, tU_r, tU_f, sI_1, sI_2, upd_r, cb, cm, e2] using this
  · by_cases e2 : m' = m
    · subst e2
      refine ⟨by simp [eU_r, eU_1, eI_1, eI_2, tU_r, tU_f, sI_1, sI_2, upd_r, cm], by simp [eU_r, eU_1, eI_1, eI_2, tU_r, tU_f, sI_1, sI_2, upd_r, cm, cp, tA, e6'], by simp [eU_r, eU_1, eI_1, eI_2, tU_r, tU_f, sI_1, sI_2, upd_r, cm, tA, eG, m3], Or.inr ⟨?_, b, hb, by simp [eU_r, eU_1, eI_1, eI_2, tU_r, tU_f, sI_1, sI_2, upd_r, cm], by simp [eU_r, eU_1, eI_1, eI_2, tU_r, tU_f, sI_1, sI_2, upd_r, cb]⟩⟩
      simp [eU_r, eU_1, eI_1, eI_2, tU_r, tU_f, sI_1, sI_2, upd_r, cm, cb, cp, tA, eG, e7']
    · obtain ⟨n1, n2, n3, n4⟩ := hM m' hm'
      refine ⟨by simp [eU_r, eU_1, eI_1, eI_2, tU_r, tU_f, sI_1, sI_2, upd_r, cm, e2, n1], by simp [eU_r, eU_1, eI_1, eI_2, tU_r, tU_f, sI_1, sI_2, upd_r, cm, e2, n2], by simp [eU_r, eU_1, eI_1, eI_2, tU_r, tU_f, sI_1, sI_2, upd_r, cm, e2, n3], ?_⟩
      rcases n4 with n4 | ⟨n4, b2, hb2, f3, f4⟩
      · exact Or.inl (by simp [eU_r, eU_1, eI_1, eI_2, tU_r, tU_f, sI_1, sI_2, upd_r, cm, e2, n4])
      · have hne : ¬ b2 = b := fun q => by subst q; rw [hpl] at f4; exact absurd f4 (by decide)
        exact Or.inr ⟨by simp [eU_r, eU_1, eI_1, eI_2, tU_r, tU_f, sI_1, sI_2, upd_r, cm, e2, n4], b2, hb2, by simp [eU_r, eU_1, eI_1, eI_2, tU_r, tU_f, sI_1, sI_2, upd_r, cm, e2, f3], by simp [eU_r, eU_1, eI_1, eI_2, tU_r, tU_f, sI_1, sI_2, upd_r, cb, hne, f4]⟩
  · obtain ⟨k1, k2, k3, k4⟩ := hD d' hd'
    refine ⟨k1, k2, k3, ?_⟩
    rcases k4 with g1 | ⟨b2, hb2, g3, g4, g5, g6⟩ | ⟨b2, hb2, g3, g4, g5, g6, g7⟩
    · exact Or.inl g1
    · have hne : ¬ b2 = b := fun q => by
        subst q
        rw [hpl] at g6
        rcases g6 with g6 | g6 <;> exact absurd g6 (by decide)
      exact Or.inr (Or.inl ⟨b2, hb2, g3, g4, g5, by simpa [eU_r, eU_1, eI_1, eI_2, tU_r, tU_f, sI_1, sI_2, upd_r, cb, hne] using g6⟩)
    · have hne : ¬ b2 = b := fun q => by subst q; rw [hpl] at g6; exact absurd g6 (by decide)
      exact Or.inr (Or.inr ⟨b2, hb2, g3, g4, g5, by simpa [eU_r, eU_1, eI_1, eI_2, tU_r, tU_f, sI_1, sI_2, upd_r, cb, hne] using g6, g7⟩)
  · have hno : ∀ i, i < 3 → ¬ y.2.2.1 43 i = nI b := by
      intro i hi z
      obtain ⟨-, -, -, n4⟩ := hM i hi
      rcases n4 with n4 | ⟨n4, b2, hb2, f3, f4⟩
      · exact nIm (by omega) (z.symm.trans n4)
      · have := nIi (by omega) (by omega) (f3.symm.trans z)
        subst this
        rw [hpl] at f4; exact absurd f4 (by decide)
    by_cases ei : i = m
    · by_cases ej : j = m
      · exact Or.inl (ei.trans ej.symm)
      · subst ei
        have q : nI b = y.2.2.1 43 j := by simpa [eU_r, eU_1, eI_1, eI_2, tU_r, tU_f, sI_1, sI_2, upd_r, cm, ej] using q
        exact absurd q.symm (hno j hj)
    · by_cases ej : j = m
      · subst ej
        have q : y.2.2.1 43 i = nI b := by simpa [eU_r, eU_1, eI_1, eI_2, tU_r, tU_f, sI_1, sI_2, upd_r, cm, ei] using q
        exact absurd q (hno i hi)
      · have := um i j hi hj (by simpa [eU_r, eU_1, eI_1, eI_2, tU_r, tU_f, sI_1, sI_2, upd_r, cm, ei, ej] using q)
        simpa [eU_r, eU_1, eI_1, eI_2, tU_r, tU_f, sI_1, sI_2, upd_r, cm, ei] using this
theorem R_e19 {S : Sh} {P : Pl} {nw T : Nat} {x : DS} {y : TS} (h : R S P nw T x y) : R S P nw T (eI x 19 (x.1 19 + 0)) y := by
  obtain ⟨h1, ⟨a, b, c⟩, hr⟩ := h
  refine ⟨h1, ⟨a, ?_, c⟩, hr⟩
  rw [eI_1, if_pos rfl, Int32.add_zero]; exact b
theorem R_e52 {S : Sh} {P : Pl} {nw T : Nat} {x : DS} {y : TS} (h : R S P nw T x y) : R S P nw T (eI x 19 (x.1 19 + 1)) (sI y 52 (y.1 52 + 1)) := by
  obtain ⟨h1, ⟨a, b, c⟩, hr⟩ := h
  refine ⟨h1.k (by simp (disch := decide) only [rky_s]), ⟨a, ?_, c⟩, hr⟩
  rw [eI_1, if_pos rfl, sI_1, if_pos rfl, b]
theorem R_mx1 {S : Sh} {P : Pl} {nw T m t : Nat} {x : DS} {y : TS} (h : R S P nw T x y) (hm : m < 3) (ht : t < 1440) : R S P nw T (dy_mx1 S P (nI t) m x) (tw_mix1 (nI t) m y) := by
  have h20 := h.nb
  have cm : (nI m).toNatClampNeg = m := nIc (by omega)
  obtain ⟨x1, x2⟩ := R_nx (t := nI t) h
  obtain ⟨m1, m2, m3, m4⟩ := h.2.2.2.1 m hm
  obtain ⟨c3, cl1, cl2⟩ := h.1.2.1.2.2.2.2.2.2.2.1
  have cl3 : tG y 3 = nI c3 := (h.1.g (i := 3) (by decide)).trans cl2
  unfold dy_mx1 tw_mix1
  simp only [eG, tA, cm, m1, x1]
  by_cases c : y.2.2.1 43 m = -1
  · rw [if_pos c, if_pos c]
    rcases x2 with q | ⟨k, k1, k2, k3⟩
    · rw [if_pos q, if_pos q]; exact h
    · have nz : ¬ tw_next (nI t) y = -1 := by rw [k2]; exact nIm (by omega)
      rw [if_neg nz, if_neg nz, k2]
      obtain ⟨p, s, v, dg, mx, pr, wi, bk, ht, g0, rg, e1, e2, e3, e4, e5, e6, e7, -⟩ := h.1.b k1
      have cp : (nI p).toNatClampNeg = p := nIc (by omega)
      have z1 := pX_of (S := S) (k := k) (by omega) (by omega) e1 e2
      have z2 : (pX S P (nI k)).2.1 = nI dg := by rw [z1]
      unfold dy_mxB tw_mixB
      simp only [eG, tA, cm, m2, z2]
      rw [Int32.add_zero, show y.2.2.1 6 (tB y (nI k) 0).toNatClampNeg = nI dg by rw [e3]; exact e6]
      by_cases c1 : y.2.2.1 45 m = -1
      · rw [if_pos c1, if_pos c1]
        exact R_mxD (R_e19 h) hm k1 k3 c (by omega)
      · rw [if_neg c1, if_neg c1]
        by_cases c2 : y.2.2.1 45 m = nI dg
        · rw [if_pos c2, if_pos c2]
          exact R_mxD (R_e19 h) hm k1 k3 c (by omega)
        · rw [if_neg c2, if_neg c2]
          rw [show tG (sI y 52 (y.1 52 + 1)) 3 = nI c3 from cl3, show pS P 3 = nI c3 from cl2, nI_add]
          exact R_mxD (R_e52 h) hm k1 k3 c (by omega)
  · rw [if_neg c, if_neg c]; exact h
theorem R_mixN {S : Sh} {P : Pl} {nw T t n : Nat} {x : DS} {y : TS} (h : R S P nw T x y) (ht : t < 1440) (hn : n ≤ qm P) : R S P nw T (it (dy_mx1 S P (nI t)) n x) (it (tw_mix1 (nI t)) n y) := by
  refine it_sim (f := dy_mx1 S P (nI t)) (g := (tw_mix1 (nI t))) (fun x y => R S P nw T x y) h (qm P) ?_ n hn
  intro i x y hi q
  exact R_mx1 q (Nat.lt_of_lt_of_le hi (R.qm q)) ht
theorem R_mix {S : Sh} {P : Pl} {nw T t : Nat} {x : DS} {y : TS} (h : R S P nw T x y) (ht : t < 1440) : R S P nw T (dy_mix S P (nI t) x) (tw_mix (nI t) y) := by
  unfold dy_mix tw_mix
  rw [h.1.hm]
  exact R_mixN h ht (Nat.le_refl _)
theorem it_simI {σ τ : Type} (Q : Nat → σ → τ → Prop) {f : Nat → σ → σ} {g : Nat → τ → τ} {x : σ} {y : τ} (h0 : Q 0 x y) (N : Nat) (h : ∀ i x y, i < N → Q i x y → Q (i + 1) (f i x) (g i y)) : ∀ n, n ≤ N → Q n (it f n x) (it g n y) := by
  intro n
  induction n with
  | zero => intro _; exact h0
  | succ n ih => intro hn; exact h n _ _ hn (ih (by omega))
def rGr (S : Sh) (P : Pl) (nw T n : Nat) (x : DS) (y : TS) : Prop := R S P nw (T + 1) x y ∧ ∀ b, n ≤ b → b < P.nb → ∃ a, a ≤ 8 * T ∧ y.2.2.1 33 b = nI a
theorem bI.mono {T T' : Nat} {a b c d e f g k : Int32} (h : bI T a b c d e f g k) (hT : T ≤ T') : bI T' a b c d e f g k := by
  obtain ⟨⟨z, z1, z2⟩, hr⟩ := h
  exact ⟨⟨z, by omega, z2⟩, hr⟩
theorem R.mono {S : Sh} {P : Pl} {nw T T' : Nat} {x : DS} {y : TS} (h : R S P nw T x y) (hT : T ≤ T') : R S P nw T' x y := by
  obtain ⟨h1, h2, hB, hr⟩ := h
  exact ⟨h1, h2, fun b hb => ⟨(hB b hb).1, (hB b hb).2.1, (hB b hb).2.2.mono hT⟩, hr⟩
/-- a batch's parts and shelf minutes change -/
theorem R_part {S : Sh} {P : Pl} {nw T b a : Nat} {c : Int32} {x : DS} {y : TS} (h : R S P nw T x y) (hb : b < P.nb) (ha : a ≤ 8 * T) (hpl : y.2.2.1 32 b = 2 ∨ y.2.2.1 32 b = 3) : R S P nw T (eU (eU x 9 (nI b) (nI a)) 8 (nI b) c) (tU (tU y 33 (nI b) (nI a)) 41 (nI b) c) := by
  have h20 := h.nb
  have cb : (nI b).toNatClampNeg = b := nIc (by omega)
  obtain ⟨h1, h2, hB, hM, hD, um, ud, hp⟩ := h
  refine ⟨h1.k (by simp (disch := decide) only [rky_u]), h2, fun b' hb' => ?_, hM, hD, um, ud, hp⟩
  by_cases e2 : b' = b
  · subst e2
    obtain ⟨⟨q1, q2, q3, q4, q5, q6, q7, q8, q9, q10⟩, ph, i1, i2, i3, i4, i5, i6⟩ := hB b' hb'
    refine ⟨?_, ph, ?_⟩
    · simp [rBe, eU_r, eU_1, eI_1, eI_2, tU_r, tU_f, sI_1, sI_2, upd_r, cb, q1, q2, q3, q4, q5, q6, q7, q10]
    · have : bI T (y.2.2.1 32 b') (nI a) (y.2.2.1 34 b') (y.2.2.1 35 b') (y.2.2.1 37 b') (y.2.2.1 38 b') (y.2.2.1 39 b') (y.2.2.1 42 b') := ⟨⟨a, ha, rfl⟩, fun q => by rcases hpl with z | z <;> (rw [z] at q; rcases q with q | q <;> exact absurd q (by decide)), i3, i4, i5, i6⟩
      simpa [eU_r, eU_1, eI_1, eI_2, tU_r, tU_f, sI_1, sI_2, upd_r, cb] using this
  · have := hB b' hb'
    unfold rB rBe at this ⊢
    simpa [eU_r, eU_1, eI_1, eI_2, tU_r, tU_f, sI_1, sI_2, upd_r, cb, e2] using this
theorem tU_same {x : TS} {j : Nat} {i v : Int32} (h : x.2.2.1 j i.toNatClampNeg = v) : tU x j i v = x := by
  have e : va_up x.2.2.1 j (upd (x.2.2.1 j) i.toNatClampNeg v) = x.2.2.1 := by
    funext k
    unfold va_up
    split
    · rename_i e; subst e
      funext q
      unfold upd
      split
      · rename_i e2; rw [e2]; exact h.symm
      · rfl
    · rfl
  unfold tU sA
  rw [e]
theorem R_gr1 {S : Sh} {P : Pl} {nw T n : Nat} {x : DS} {y : TS} (h : rGr S P nw T n x y) (hn : n < P.nb) : rGr S P nw T (n + 1) (dy_gr1 P n x) (tw_gro1 n y) := by
  obtain ⟨h, hl⟩ := h
  have h20 := h.nb
  have cn : (nI n).toNatClampNeg = n := nIc (by omega)
  obtain ⟨sl, l1, l2, l3⟩ := h.1.2.1.slow
  have l4 : tG y 4 = nI sl := (h.1.g (i := 4) (by decide)).trans l3
  obtain ⟨a, a1, a2⟩ := hl n (Nat.le_refl _) hn
  obtain ⟨⟨q1, q2, q3, q4, q5, q6, q7, q8, q9, q10⟩, ph, -⟩ := h.2.2.1 n hn
  unfold dy_gr1 tw_gro1 tw_gr2 tw_gr1
  simp only [eG, tA, cn]
  by_cases c2 : y.2.2.1 32 n = 2
  · have p2 := ph
    rw [c2] at p2
    rw [if_pos p2.p2.1, if_pos p2.p2.2, if_pos c2]
    rw [if_neg (show ¬ (tU y 33 (nI n) (y.2.2.1 33 n + tG y 4)).2.2.1 32 n = 3 from fun q => absurd (c2.symm.trans q) (by decide))]
    have key := R_part (a := a + sl) (c := y.2.2.1 41 n) h hn (by omega) (Or.inl c2)
    rw [show y.2.2.1 33 n + tG y 4 = nI (a + sl) by rw [a2, l4, nI_add], show x.2.2 9 n + pS P 4 = nI (a + sl) by rw [q9, a2, show pS P 4 = nI sl from l3, nI_add]]
    rw [tU_same (x := tU y 33 (nI n) (nI (a + sl))) (j := 41) (i := nI n) (v := y.2.2.1 41 n) (by rw [cn]; rfl)] at key
    refine ⟨?_, fun b hb hb2 => ?_⟩
    · show R S P nw (T + 1) (eU (eU x 9 (nI n) (nI (a + sl))) 8 (nI n) (x.2.2 8 n + 0)) _
      rw [Int32.add_zero, q8]
      exact key
    · have hne : ¬ b = n := by omega
      have := hl b (by omega) hb2
      simpa [eU_r, eU_1, eI_1, eI_2, tU_r, tU_f, sI_1, sI_2, upd_r, cn, hne] using this
  · rw [if_neg c2]
    by_cases c3 : y.2.2.1 32 n = 3
    · have p3 := ph
      rw [c3] at p3
      rw [if_pos p3.p3.1, if_neg (by rw [p3.p3.2]; decide), if_pos c3]
      have key := R_part (a := a + 1) (c := y.2.2.1 41 n + 1) h hn (by omega) (Or.inr c3)
      refine ⟨?_, fun b hb hb2 => ?_⟩
      · show R S P nw (T + 1) (eU (eU x 9 (nI n) (x.2.2 9 n + 1)) 8 (nI n) (x.2.2 8 n + 1)) (tU (tU y 33 (nI n) (y.2.2.1 33 n + 1)) 41 (nI n) (y.2.2.1 41 n + 1))
        rw [q9, q8, a2, nI_1]
        exact key
      · have hne : ¬ b = n := by omega
        have := hl b (by omega) hb2
        simpa [eU_r, eU_1, eI_1, eI_2, tU_r, tU_f, sI_1, sI_2, upd_r, cn, hne] using this
    · rw [if_neg (fun q => (ph.two.mp q).elim c2 c3), if_neg c3]
      exact ⟨h, fun b hb hb2 => hl b (by omega) hb2⟩
theorem R_groN {S : Sh} {P : Pl} {nw T n : Nat} {x : DS} {y : TS} (h : R S P nw T x y) (hn : n ≤ P.nb) : rGr S P nw T n (it (dy_gr1 P) n x) (it tw_gro1 n y) := by
  refine it_simI (f := dy_gr1 P) (g := tw_gro1) (fun n x y => rGr S P nw T n x y) ⟨h.mono (by omega), fun b _ hb => (h.2.2.1 b hb).2.2.1⟩ P.nb ?_ n hn
  intro i x y hi q
  exact R_gr1 q hi
theorem R_gb {S : Sh} {P : Pl} {nw T d : Nat} {x : DS} {y : TS} (h : R S P nw T x y) (hd : d < 4) : R S P nw T (dy_gb (nI d) x) (tw_he1 (nI d) y) := by
  have cd : (nI d).toNatClampNeg = d := nIc (by omega)
  have hbk := rD.bk h hd
  obtain ⟨h1, h2, hB, hM, hD, um, ud, hp⟩ := h
  obtain ⟨n1, n2, n3, n4⟩ := hD d hd
  unfold dy_gb tw_he1
  simp only [eG, tA, cd]
  by_cases c : y.2.2.1 48 d = -1
  · rw [if_pos c, if_neg (fun q => hbk.mp q c)]
    refine ⟨h1, h2, hB, hM, fun d' hd' => ?_, um, ud, hp⟩
    obtain ⟨k1, k2, k3, k4⟩ := hD d' hd'
    refine ⟨k1, ?_, k3, k4⟩
    by_cases e2 : d' = d
    · subst e2; simp [eU_r, eU_1, eI_1, eI_2, tU_r, tU_f, sI_1, sI_2, upd_r, cd, n2]
    · simp [eU_r, eU_1, eI_1, eI_2, tU_r, tU_f, sI_1, sI_2, upd_r, cd, e2, k2]
  · rw [if_neg c, if_pos (hbk.mpr c)]
    refine ⟨h1.k (by simp (disch := decide) only [rky_u]), h2, hB, hM, fun d' hd' => ?_, um, ud, hp⟩
    obtain ⟨k1, k2, k3, k4⟩ := hD d' hd'
    refine ⟨k1, ?_, k3, k4⟩
    by_cases e2 : d' = d
    · subst e2; simp [eU_r, eU_1, eI_1, eI_2, tU_r, tU_f, sI_1, sI_2, upd_r, cd, n2]
    · simp [eU_r, eU_1, eI_1, eI_2, tU_r, tU_f, sI_1, sI_2, upd_r, cd, e2, k2]
theorem max_t {a b : Int32} : (dy_max a b).toInt = if a.toInt < b.toInt then b.toInt else a.toInt := by
  unfold dy_max
  by_cases h : a < b
  · rw [if_pos h, if_pos (Int32.lt_iff_toInt_lt.mp h)]
  · rw [if_neg h, if_neg (fun q => h (Int32.lt_iff_toInt_lt.mpr q))]
theorem min_t {a b : Int32} : (dy_min a b).toInt = if b.toInt < a.toInt then b.toInt else a.toInt := by
  unfold dy_min
  by_cases h : b < a
  · rw [if_pos h, if_pos (Int32.lt_iff_toInt_lt.mp h)]
  · rw [if_neg h, if_neg (fun q => h (Int32.lt_iff_toInt_lt.mpr q))]
/-- how much a deck's degrees change -/
abbrev n_by (u g ra : Nat) : Nat := if (if u < g then g - u else u - g) ≤ ra then (if u < g then g - u else u - g) else ra
theorem n_stp {P : Pl} {u g ra : Nat} (hu : u ≤ 300) (hg : g ≤ 300) (hr : ra ≤ 20) (e : P.sf 5 = nI ra) : dy_stp P (nI u) (nI g) = if u ≤ g then -(nI (n_by u g ra)) else nI (n_by u g ra) := by
  have h1 : (nI u - nI g).toInt = (u : Int) - g := pk_sub_toInt (by omega) (by omega)
  have h2 : (nI ra).toInt = ra := nIt (by omega)
  have hb : n_by u g ra ≤ 300 := by unfold n_by; split <;> (try split) <;> omega
  have h3 : (nI (n_by u g ra)).toInt = (n_by u g ra : Int) := nIt (by omega)
  apply Int32.toInt_inj.mp
  unfold dy_stp
  rw [show pS P 5 = nI ra from e, max_t, min_t, h1, i32_neg (by omega), h2]
  by_cases c : u ≤ g
  · rw [if_pos c, i32_neg (by omega), h3]
    unfold n_by
    by_cases c2 : u < g
    · simp only [if_pos c2]
      split <;> split <;> split <;> omega
    · simp only [if_neg c2]
      split <;> split <;> split <;> omega
  · rw [if_neg c, h3]
    unfold n_by
    simp only [if_neg (show ¬ u < g by omega)]
    split <;> split <;> split <;> omega
theorem n_absm {k : Nat} (hk : k < 100000) : dy_abs (-(nI k)) = nI k := by
  have h3 : (nI k).toInt = (k : Int) := nIt hk
  have h4 : (-(nI k)).toInt = -(k : Int) := by rw [i32_neg (by omega), h3]
  unfold dy_abs
  by_cases h : 0 ≤ -(nI k)
  · rw [if_pos h]
    rw [Int32.le_iff_toInt_le, h4, i0] at h
    rw [show k = 0 by omega]; rfl
  · rw [if_neg h]
    apply Int32.toInt_inj.mp
    rw [i32_sub (by rw [i0]; omega) (by omega), i0, h4, h3]; omega
theorem n_absp {k : Nat} (hk : k < 100000) : dy_abs (nI k) = nI k := if_pos (nI_pos' (by omega))
theorem R_heat {S : Sh} {P : Pl} {nw T d g : Nat} {c : Int32} {x : DS} {y : TS} (h : R S P nw T x y) (hd : d < 4) (hg : 100 ≤ g ∧ g ≤ 300) : R S P nw T (eI (eU x 17 (nI d) (nI g)) 20 (x.1 20 + c)) (sI (tU y 50 (nI d) (nI g)) 53 (y.1 53 + c)) := by
  have cd : (nI d).toNatClampNeg = d := nIc (by omega)
  obtain ⟨h1, ⟨a, b, e⟩, hB, hM, hD, um, ud, hp⟩ := h
  refine ⟨h1.k (by simp (disch := decide) only [rky_u, rky_s]), ⟨a, b, ?_⟩, hB, hM, fun d' hd' => ?_, um, ud, hp⟩
  · rw [eI_1, if_pos rfl, sI_1, if_pos rfl, e]
  · obtain ⟨k1, k2, k3, k4⟩ := hD d' hd'
    by_cases e2 : d' = d
    · subst e2
      exact ⟨by simp [eU_r, eU_1, eI_1, eI_2, tU_r, tU_f, sI_1, sI_2, upd_r, cd], k2, ⟨g, hg.1, hg.2, by simp [eU_r, eU_1, eI_1, eI_2, tU_r, tU_f, sI_1, sI_2, upd_r, cd]⟩, k4⟩
    · obtain ⟨z, z1, z2, z3⟩ := k3
      exact ⟨by simp [eU_r, eU_1, eI_1, eI_2, tU_r, tU_f, sI_1, sI_2, upd_r, cd, e2, k1], k2, ⟨z, z1, z2, by simp [eU_r, eU_1, eI_1, eI_2, tU_r, tU_f, sI_1, sI_2, upd_r, cd, e2, z3]⟩, k4⟩
theorem R_gh {S : Sh} {P : Pl} {nw T d : Nat} {x : DS} {y : TS} (h : R S P nw T x y) (hd : d < 4) : R S P nw T (dy_gh S P (nI d) x) (tw_he2 (nI d) y) := by
  have h20 := h.nb
  have cd : (nI d).toNatClampNeg = d := nIc (by omega)
  have hbk := rD.bk h hd
  obtain ⟨g, g1, g2, g3, g4⟩ := h.deg hd
  obtain ⟨ra, k1, k2, k3⟩ := h.1.2.1.rate
  have k4 : tG y 5 = nI ra := (h.1.g (i := 5) (by decide)).trans k3
  obtain ⟨-, -, -, n4⟩ := h.2.2.2.2.1 d hd
  unfold dy_gh tw_he2
  simp only [eG, tA, cd]
  rcases n4 with ⟨f1, f2, f3⟩ | ⟨b, hb, f3, f4, f5, f6⟩ | ⟨b, hb, f3, f4, f5, f6, f7⟩
  · rw [if_pos f1, if_pos f2]; exact h
  · have cb : (nI b).toNatClampNeg = b := nIc (by omega)
    obtain ⟨p, s, v, dg, mx, pr, wi, bk, ht, g0, rg, e1, e2, e3, e4, e5, e6, e7, e8, e9, e10, e11⟩ := h.1.b hb
    have x1 := pX_of (S := S) (k := b) (by omega) (by omega) e1 e2
    have hht : (pX S P (nI b)).2.2.2.2.2.2 = nI ht := by rw [x1]
    have hy : y.2.2.1 11 (tB y (nI b) 0).toNatClampNeg = nI ht := by rw [e3]; exact e11
    simp only [f3, f4]
    rw [if_neg (nIm (by omega)), if_neg (nIm (by omega)), if_neg (fun q => hbk.mp q f5), hht, hy, g4]
    unfold dy_ghU tw_he3 tw_he4 tw_he5
    simp only [eG, tA, cd]
    rw [g3, g4, k4, n_apart (by omega) (by omega), n_stp (by omega) (by omega) k2 k3]
    have hby : n_by ht g ra ≤ 300 := by unfold n_by; split <;> (try split) <;> omega
    have tw : ∀ z : Nat, z = n_by ht g ra → R S P nw T ((fun x => eI x 20 (x.1 20 + dy_abs (if ht ≤ g then -(nI (n_by ht g ra)) else nI (n_by ht g ra)))) (eU x 17 (nI d) (nI g + if ht ≤ g then -(nI (n_by ht g ra)) else nI (n_by ht g ra)))) (if nI ht ≤ nI g then (fun x => sI x 53 (x.1 53 + nI z)) (tU y 50 (nI d) (nI g + -(nI z))) else (fun x => sI x 53 (x.1 53 + nI z)) (tU y 50 (nI d) (nI g + nI z))) := by
      intro z hz
      subst hz
      by_cases c : ht ≤ g
      · rw [if_pos c, if_pos (nI_le c (by omega)), n_absm (by omega)]
        have e : nI g + -(nI (n_by ht g ra)) = nI (g - n_by ht g ra) := by
          rw [← Int32.sub_eq_add_neg, pk_sub]
          unfold n_by; split <;> (try split) <;> omega
        rw [e]
        exact R_heat h hd (by unfold n_by; split <;> (try split) <;> omega)
      · rw [if_neg c, if_neg (nI_ge (by omega) (by omega)), n_absp (by omega), nI_add]
        exact R_heat h hd (by unfold n_by; split <;> (try split) <;> omega)
    by_cases c : (if ht < g then g - ht else ht - g) ≤ ra
    · rw [if_pos (nI_le c (by omega))]
      exact tw _ (by unfold n_by; rw [if_pos c])
    · rw [if_neg (nI_ge (by omega) (by split <;> omega))]
      exact tw _ (by unfold n_by; rw [if_neg c])
  · simp only [f3, f4]
    rw [if_neg (nIm (by omega)), if_pos (hbk.mpr (by rw [f5]; exact nIm (by omega))), if_pos True.intro]; exact h
theorem R_gdN {S : Sh} {P : Pl} {nw T n : Nat} {x : DS} {y : TS} (h : R S P nw T x y) (hn : n ≤ qd P) : R S P nw T (it (dy_gd1 S P) n x) (it tw_hea1 n y) := by
  refine it_sim (f := dy_gd1 S P) (g := tw_hea1) (fun x y => R S P nw T x y) h (qd P) ?_ n hn
  intro i x y hi q
  exact R_gh (R_gb q (Nat.lt_of_lt_of_le hi (R.qd q))) (Nat.lt_of_lt_of_le hi (R.qd q))
theorem R_gro {S : Sh} {P : Pl} {nw T : Nat} {x : DS} {y : TS} (h : R S P nw T x y) : R S P nw (T + 1) (dy_gro S P x) (tw_hea (tw_gro y)) := by
  unfold dy_gro tw_hea tw_gro
  have h1 := (R_groN h (Nat.le_refl P.nb)).1
  rw [h.1.2.2.2.1, h1.1.hd]
  exact R_gdN h1 (Nat.le_refl _)
theorem R_mnt {S : Sh} {P : Pl} {nw t : Nat} {x : DS} {y : TS} (h : R S P nw t x y) (ht : t < 1440) : R S P nw (t + 1) (dy_mnt S P (nI t) x) (tw_min (nI t) y) :=
  R_gro (R_mix (R_she (R_bak (R_res (R_spo (R_end h ht)) (by omega)) (by omega) ht) (by omega)) ht)
