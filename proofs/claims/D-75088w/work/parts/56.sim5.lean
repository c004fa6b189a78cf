/-! the day against the twin: the beginning, notes, the end -/
set_option maxRecDepth 100000
def dy_bg1 (b : Nat) (x : DS) : DS := eU (eU (eU (eU (eU (eU (eU (eU (eU (eU (eU (eU x 0 (nI b) 0) 1 (nI b) (-1)) 2 (nI b) (-1)) 3 (nI b) (-1)) 4 (nI b) (-1)) 5 (nI b) (-1)) 6 (nI b) (-1)) 7 (nI b) (-1)) 8 (nI b) 0) 9 (nI b) 0) 10 (nI b) (-1)) 11 (nI b) 0
def dy_bg2 (m : Nat) (x : DS) : DS := eU (eU (eU x 12 (nI m) (-1)) 14 (nI m) (-1)) 15 (nI m) 0
def dy_bg3 (d : Nat) (x : DS) : DS := eU (eU (eU x 16 (nI d) (-1)) 17 (nI d) 200) 18 (nI d) 0
def dy_b0 (P : Pl) (p q : Nat) (x : DS) : DS := eI (eI (eI (eR (eR x 22 p) 23 q) 21 (nI P.nb)) 19 0) 20 0
def dy_beg (P : Pl) (p q : Nat) (x : DS) : DS := it dy_bg3 4 (it dy_bg2 3 (it dy_bg1 P.nb (dy_b0 P p q x)))
def iB (f : Nat → Nat → Int32) (b : Nat) : Prop := f 0 b = 0 ∧ f 1 b = -1 ∧ f 2 b = -1 ∧ f 3 b = -1 ∧ f 4 b = -1 ∧ f 5 b = -1 ∧ f 6 b = -1 ∧ f 7 b = -1 ∧ f 8 b = 0 ∧ f 9 b = 0 ∧ f 10 b = -1 ∧ f 11 b = 0
theorem dy_bg1_at {x : DS} : ∀ n, n ≤ 20 → (it dy_bg1 n x).1 = x.1 ∧ (it dy_bg1 n x).2.1 = x.2.1 ∧ (∀ b, b < n → iB (it dy_bg1 n x).2.2 b) := by
  intro n
  induction n with
  | zero => intro _; exact ⟨rfl, rfl, fun b hb => absurd hb (Nat.not_lt_zero b)⟩
  | succ n ih =>
    intro hn
    have cn : (nI n).toNatClampNeg = n := nIc (by omega)
    obtain ⟨h1, h2, h3⟩ := ih (by omega)
    rw [it]
    generalize it dy_bg1 n x = z at h1 h2 h3
    refine ⟨h1, h2, fun b hb => ?_⟩
    by_cases e : b = n
    · subst e
      simp [dy_bg1, iB, eU_r, eU_1, eI_1, eI_2, tU_r, tU_f, sI_1, sI_2, upd_r, cn]
    · have := h3 b (by omega)
      unfold iB at this ⊢
      simpa [dy_bg1, eU_r, eU_1, eI_1, eI_2, tU_r, tU_f, sI_1, sI_2, upd_r, cn, e] using this
def iM (f : Nat → Nat → Int32) (b : Nat) : Prop := f 12 b = -1 ∧ f 14 b = -1 ∧ f 15 b = 0
theorem dy_bg2_at {x : DS} : ∀ n, n ≤ 3 → (it dy_bg2 n x).1 = x.1 ∧ (it dy_bg2 n x).2.1 = x.2.1 ∧ (∀ j, j < 12 → (it dy_bg2 n x).2.2 j = x.2.2 j) ∧ (∀ b, b < n → iM (it dy_bg2 n x).2.2 b) := by
  intro n
  induction n with
  | zero => intro _; exact ⟨rfl, rfl, fun _ _ => rfl, fun b hb => absurd hb (Nat.not_lt_zero b)⟩
  | succ n ih =>
    intro hn
    have cn : (nI n).toNatClampNeg = n := nIc (by omega)
    obtain ⟨h1, h2, h0, h3⟩ := ih (by omega)
    rw [it]
    generalize it dy_bg2 n x = z at h1 h2 h0 h3
    refine ⟨h1, h2, fun j hj => ?_, fun b hb => ?_⟩
    · rw [← h0 j hj]
      unfold dy_bg2
      rw [eU_r, if_neg (by omega), eU_r, if_neg (by omega), eU_r, if_neg (by omega)]
    · by_cases e : b = n
      · subst e
        simp [dy_bg2, iM, eU_r, eU_1, eI_1, eI_2, tU_r, tU_f, sI_1, sI_2, upd_r, cn]
      · have := h3 b (by omega)
        unfold iM at this ⊢
        simpa [dy_bg2, eU_r, eU_1, eI_1, eI_2, tU_r, tU_f, sI_1, sI_2, upd_r, cn, e] using this
def iD (f : Nat → Nat → Int32) (b : Nat) : Prop := f 16 b = -1 ∧ f 17 b = 200 ∧ f 18 b = 0
theorem dy_bg3_at {x : DS} : ∀ n, n ≤ 4 → (it dy_bg3 n x).1 = x.1 ∧ (it dy_bg3 n x).2.1 = x.2.1 ∧ (∀ j, j < 16 → (it dy_bg3 n x).2.2 j = x.2.2 j) ∧ (∀ b, b < n → iD (it dy_bg3 n x).2.2 b) := by
  intro n
  induction n with
  | zero => intro _; exact ⟨rfl, rfl, fun _ _ => rfl, fun b hb => absurd hb (Nat.not_lt_zero b)⟩
  | succ n ih =>
    intro hn
    have cn : (nI n).toNatClampNeg = n := nIc (by omega)
    obtain ⟨h1, h2, h0, h3⟩ := ih (by omega)
    rw [it]
    generalize it dy_bg3 n x = z at h1 h2 h0 h3
    refine ⟨h1, h2, fun j hj => ?_, fun b hb => ?_⟩
    · rw [← h0 j hj]
      unfold dy_bg3
      rw [eU_r, if_neg (by omega), eU_r, if_neg (by omega), eU_r, if_neg (by omega)]
    · by_cases e : b = n
      · subst e
        simp [dy_bg3, iD, eU_r, eU_1, eI_1, eI_2, tU_r, tU_f, sI_1, sI_2, upd_r, cn]
      · have := h3 b (by omega)
        unfold iD at this ⊢
        simpa [dy_bg3, eU_r, eU_1, eI_1, eI_2, tU_r, tU_f, sI_1, sI_2, upd_r, cn, e] using this
theorem dy_beg_at {P : Pl} {p q : Nat} {x : DS} (hn : P.nb ≤ 20) : (dy_beg P p q x).1 21 = nI P.nb ∧ (dy_beg P p q x).1 19 = 0 ∧ (dy_beg P p q x).1 20 = 0 ∧ (dy_beg P p q x).2.1 22 = p ∧ (dy_beg P p q x).2.1 23 = q ∧ (∀ b, b < P.nb → iB (dy_beg P p q x).2.2 b) ∧ (∀ b, b < 3 → iM (dy_beg P p q x).2.2 b) ∧ (∀ b, b < 4 → iD (dy_beg P p q x).2.2 b) := by
  obtain ⟨a1, a2, a3⟩ := dy_bg1_at (x := dy_b0 P p q x) P.nb hn
  unfold dy_beg
  generalize it dy_bg1 P.nb (dy_b0 P p q x) = x1 at a1 a2 a3
  obtain ⟨b1, b2, b3, b4⟩ := dy_bg2_at (x := x1) 3 (Nat.le_refl _)
  generalize it dy_bg2 3 x1 = x2 at b1 b2 b3 b4
  obtain ⟨c1, c2, c3, c4⟩ := dy_bg3_at (x := x2) 4 (Nat.le_refl _)
  generalize it dy_bg3 4 x2 = x3 at c1 c2 c3 c4
  refine ⟨by rw [c1, b1, a1]; rfl, by rw [c1, b1, a1]; rfl, by rw [c1, b1, a1]; rfl, by rw [c2, b2, a2]; rfl, by rw [c2, b2, a2]; rfl, fun b hb => ?_, fun b hb => ?_, c4⟩
  · have := a3 b hb
    unfold iB at this ⊢
    rw [c3 0 (by decide), c3 1 (by decide), c3 2 (by decide), c3 3 (by decide), c3 4 (by decide), c3 5 (by decide), c3 6 (by decide), c3 7 (by decide), c3 8 (by decide), c3 9 (by decide), c3 10 (by decide), c3 11 (by decide)]
    rw [b3 0 (by decide), b3 1 (by decide), b3 2 (by decide), b3 3 (by decide), b3 4 (by decide), b3 5 (by decide), b3 6 (by decide), b3 7 (by decide), b3 8 (by decide), b3 9 (by decide), b3 10 (by decide), b3 11 (by decide)]
    exact this
  · have := b4 b hb
    unfold iM at this ⊢
    rw [c3 12 (by decide), c3 14 (by decide), c3 15 (by decide)]
    exact this
def jB (f : Nat → Nat → Int32) (b : Nat) : Prop := f 32 b = 0 ∧ f 33 b = 0 ∧ f 34 b = -1 ∧ f 35 b = -1 ∧ f 36 b = -1 ∧ f 37 b = -1 ∧ f 38 b = -1 ∧ f 39 b = -1 ∧ f 40 b = -1 ∧ f 41 b = 0 ∧ f 42 b = -1
theorem tw_bg1_at {x : TS} : ∀ n, n ≤ 20 → (it tw_bg1 n x).1 = x.1 ∧ (∀ j, j < 32 → (it tw_bg1 n x).2.2.1 j = x.2.2.1 j) ∧ (∀ b, b < n → jB (it tw_bg1 n x).2.2.1 b) := by
  intro n
  induction n with
  | zero => intro _; exact ⟨rfl, fun _ _ => rfl, fun b hb => absurd hb (Nat.not_lt_zero b)⟩
  | succ n ih =>
    intro hn
    have cn : (nI n).toNatClampNeg = n := nIc (by omega)
    obtain ⟨h1, h0, h3⟩ := ih (by omega)
    rw [it]
    generalize it tw_bg1 n x = z at h1 h0 h3
    refine ⟨h1, fun j hj => ?_, fun b hb => ?_⟩
    · rw [← h0 j hj]
      unfold tw_bg1
      rw [tU_r, if_neg (by omega), tU_r, if_neg (by omega), tU_r, if_neg (by omega), tU_r, if_neg (by omega), tU_r, if_neg (by omega), tU_r, if_neg (by omega), tU_r, if_neg (by omega), tU_r, if_neg (by omega), tU_r, if_neg (by omega), tU_r, if_neg (by omega), tU_r, if_neg (by omega)]
    · by_cases e : b = n
      · subst e
        simp [tw_bg1, jB, eU_r, eU_1, eI_1, eI_2, tU_r, tU_f, sI_1, sI_2, upd_r, cn]
      · have := h3 b (by omega)
        unfold jB at this ⊢
        simpa [tw_bg1, eU_r, eU_1, eI_1, eI_2, tU_r, tU_f, sI_1, sI_2, upd_r, cn, e] using this
def jM (f : Nat → Nat → Int32) (b : Nat) : Prop := f 43 b = -1 ∧ f 45 b = -1 ∧ f 46 b = 0
theorem tw_bg2_at {x : TS} : ∀ n, n ≤ 3 → (it tw_bg2 n x).1 = x.1 ∧ (∀ j, j < 43 → (it tw_bg2 n x).2.2.1 j = x.2.2.1 j) ∧ (∀ b, b < n → jM (it tw_bg2 n x).2.2.1 b) := by
  intro n
  induction n with
  | zero => intro _; exact ⟨rfl, fun _ _ => rfl, fun b hb => absurd hb (Nat.not_lt_zero b)⟩
  | succ n ih =>
    intro hn
    have cn : (nI n).toNatClampNeg = n := nIc (by omega)
    obtain ⟨h1, h0, h3⟩ := ih (by omega)
    rw [it]
    generalize it tw_bg2 n x = z at h1 h0 h3
    refine ⟨h1, fun j hj => ?_, fun b hb => ?_⟩
    · rw [← h0 j hj]
      unfold tw_bg2
      rw [tU_r, if_neg (by omega), tU_r, if_neg (by omega), tU_r, if_neg (by omega)]
    · by_cases e : b = n
      · subst e
        simp [tw_bg2, jM, eU_r, eU_1, eI_1, eI_2, tU_r, tU_f, sI_1, sI_2, upd_r, cn]
      · have := h3 b (by omega)
        unfold jM at this ⊢
        simpa [tw_bg2, eU_r, eU_1, eI_1, eI_2, tU_r, tU_f, sI_1, sI_2, upd_r, cn, e] using this
def jD (f : Nat → Nat → Int32) (b : Nat) : Prop := f 47 b = -1 ∧ f 48 b = -1 ∧ f 50 b = 200 ∧ f 51 b = 0
theorem tw_bg3_at {x : TS} : ∀ n, n ≤ 4 → (it tw_bg3 n x).1 = x.1 ∧ (∀ j, j < 47 → (it tw_bg3 n x).2.2.1 j = x.2.2.1 j) ∧ (∀ b, b < n → jD (it tw_bg3 n x).2.2.1 b) := by
  intro n
  induction n with
  | zero => intro _; exact ⟨rfl, fun _ _ => rfl, fun b hb => absurd hb (Nat.not_lt_zero b)⟩
  | succ n ih =>
    intro hn
    have cn : (nI n).toNatClampNeg = n := nIc (by omega)
    obtain ⟨h1, h0, h3⟩ := ih (by omega)
    rw [it]
    generalize it tw_bg3 n x = z at h1 h0 h3
    refine ⟨h1, fun j hj => ?_, fun b hb => ?_⟩
    · rw [← h0 j hj]
      unfold tw_bg3
      rw [tU_r, if_neg (by omega), tU_r, if_neg (by omega), tU_r, if_neg (by omega), tU_r, if_neg (by omega)]
    · by_cases e : b = n
      · subst e
        simp [tw_bg3, jD, eU_r, eU_1, eI_1, eI_2, tU_r, tU_f, sI_1, sI_2, upd_r, cn]
      · have := h3 b (by omega)
        unfold jD at this ⊢
        simpa [tw_bg3, eU_r, eU_1, eI_1, eI_2, tU_r, tU_f, sI_1, sI_2, upd_r, cn, e] using this
theorem tw_beg_at {x : TS} : (tw_beg x).1 52 = 0 ∧ (tw_beg x).1 53 = 0 ∧ (∀ j, j < 52 → (tw_beg x).1 j = x.1 j) ∧ (∀ j, 53 < j → (tw_beg x).1 j = x.1 j) ∧ (∀ j, j < 32 → (tw_beg x).2.2.1 j = x.2.2.1 j) ∧ (∀ b, b < 20 → jB (tw_beg x).2.2.1 b) ∧ (∀ b, b < 3 → jM (tw_beg x).2.2.1 b) ∧ (∀ b, b < 4 → jD (tw_beg x).2.2.1 b) := by
  obtain ⟨a1, a2, a3⟩ := tw_bg1_at (x := x) 20 (Nat.le_refl _)
  unfold tw_beg
  generalize it tw_bg1 20 x = x1 at a1 a2 a3
  obtain ⟨b1, b3, b4⟩ := tw_bg2_at (x := x1) 3 (Nat.le_refl _)
  generalize it tw_bg2 3 x1 = x2 at b1 b3 b4
  obtain ⟨c1, c3, c4⟩ := tw_bg3_at (x := x2) 4 (Nat.le_refl _)
  generalize it tw_bg3 4 x2 = x3 at c1 c3 c4
  refine ⟨rfl, rfl, fun j hj => ?_, fun j hj => ?_, fun j hj => ?_, fun b hb => ?_, fun b hb => ?_, c4⟩
  · rw [sI_1, if_neg (by omega), sI_1, if_neg (by omega), c1, b1, a1]
  · rw [sI_1, if_neg (by omega), sI_1, if_neg (by omega), c1, b1, a1]
  · show x3.2.2.1 j = _
    rw [c3 j (by omega), b3 j (by omega), a2 j hj]
  · have := a3 b hb
    show jB x3.2.2.1 b
    unfold jB at this ⊢
    rw [c3 32 (by decide), c3 33 (by decide), c3 34 (by decide), c3 35 (by decide), c3 36 (by decide), c3 37 (by decide), c3 38 (by decide), c3 39 (by decide), c3 40 (by decide), c3 41 (by decide), c3 42 (by decide)]
    rw [b3 32 (by decide), b3 33 (by decide), b3 34 (by decide), b3 35 (by decide), b3 36 (by decide), b3 37 (by decide), b3 38 (by decide), b3 39 (by decide), b3 40 (by decide), b3 41 (by decide), b3 42 (by decide)]
    exact this
  · have := b4 b hb
    show jM x3.2.2.1 b
    unfold jM at this ⊢
    rw [c3 43 (by decide), c3 45 (by decide), c3 46 (by decide)]
    exact this
theorem rky_of {y z : TS} (h1 : z.1 2 = y.1 2) (h2 : ∀ j, j < 32 → z.2.2.1 j = y.2.2.1 j) : rky z = rky y := by
  unfold rky tK
  rw [h1, h2 1 (by decide), h2 6 (by decide), h2 7 (by decide), h2 8 (by decide), h2 9 (by decide), h2 10 (by decide), h2 11 (by decide), h2 14 (by decide)]
theorem R_beg {S : Sh} {P : Pl} {nw p q : Nat} {x : DS} {y : TS} (h : rP S P nw y) : R S P nw 0 (dy_beg P p q x) (tw_beg y) := by
  have h20 := h.2.1.2.1.1
  obtain ⟨a1, a2, a3, a4, a5, a6, a7, a8⟩ := dy_beg_at (p := p) (q := q) (x := x) h20
  obtain ⟨b1, b2, b3, b4, b5, b6, b7, b8⟩ := tw_beg_at (x := y)
  generalize dy_beg P p q x = x' at a1 a2 a3 a4 a5 a6 a7 a8
  generalize tw_beg y = y' at b1 b2 b3 b4 b5 b6 b7 b8
  refine ⟨h.k (rky_of (b3 2 (by decide)) b5), ⟨a1, a2.trans b1.symm, a3.trans b2.symm⟩, fun b hb => ?_, fun m hm => ?_, fun d hd => ?_, fun i j hi hj e => ?_, fun i j hi hj e => ?_, fun d hd hd4 => (a8 d hd4).1⟩
  · obtain ⟨p0, p1, p2, p3, p4, p5, p6, p7, p8, p9, p10, p11⟩ := a6 b hb
    obtain ⟨q32, q33, q34, q35, q36, q37, q38, q39, q40, q41, q42⟩ := b6 b (by omega)
    refine ⟨⟨p1.trans q34.symm, p2.trans q35.symm, p3.trans q36.symm, p4.trans q37.symm, p5.trans q38.symm, p6.trans q39.symm, p7.trans q40.symm, p8.trans q41.symm, p9.trans q33.symm, p10.trans q42.symm⟩, ?_, ?_⟩
    · rw [q32, p0, p11]; exact Or.inl ⟨rfl, rfl, rfl⟩
    · rw [q32, q33, q34, q35, q37, q38, q39, q42]
      exact ⟨⟨0, by omega, rfl⟩, fun _ => rfl, fun z => absurd z (by decide), fun _ => rfl, Or.inl rfl, Or.inl ⟨rfl, rfl⟩⟩
  · obtain ⟨p1, p2, p3⟩ := a7 m hm
    obtain ⟨q1, q2, q3⟩ := b7 m hm
    exact ⟨p1.trans q1.symm, p2.trans q2.symm, p3.trans q3.symm, Or.inl q1⟩
  · obtain ⟨p1, p2, p3⟩ := a8 d hd
    obtain ⟨q1, q2, q3, q4⟩ := b8 d hd
    exact ⟨p2.trans q3.symm, p3.trans q4.symm, ⟨200, by decide, by decide, q3⟩, Or.inl ⟨p1, q1, q2⟩⟩
  · exact Or.inr (b7 i hi).1
  · exact Or.inr (a8 i hi).1
/-- notes change nothing that R speaks of -/
theorem R.n {S : Sh} {P : Pl} {nw T : Nat} {x : DS} {y z : TS} (h : R S P nw T x y) (e1 : z.1 = y.1) (e2 : ∀ j, j < 54 → z.2.2.1 j = y.2.2.1 j) : R S P nw T x z := by
  obtain ⟨h1, h2, hB, hM, hD, um, ud, hp⟩ := h
  refine ⟨h1.k (rky_of (by rw [e1]) (fun j hj => e2 j (by omega))), by rw [e1]; exact h2, fun b hb => ?_, fun m hm => ?_, fun d hd => ?_, ?_, ud, hp⟩
  · have := hB b hb
    unfold rB rBe at this ⊢
    rw [e2 32 (by decide), e2 33 (by decide), e2 34 (by decide), e2 35 (by decide), e2 36 (by decide), e2 37 (by decide), e2 38 (by decide), e2 39 (by decide), e2 40 (by decide), e2 41 (by decide), e2 42 (by decide)]
    exact this
  · have := hM m hm
    unfold rM at this ⊢
    rw [e2 43 (by decide), e2 44 (by decide), e2 45 (by decide), e2 46 (by decide), e2 32 (by decide)]
    exact this
  · have := hD d hd
    unfold rD at this ⊢
    rw [e2 47 (by decide), e2 48 (by decide), e2 49 (by decide), e2 50 (by decide), e2 51 (by decide), e2 32 (by decide), e2 38 (by decide)]
    exact this
  · rw [e2 43 (by decide)]; exact um
theorem tw_nb_at {t : Int32} {x : TS} : ∀ n, (it (tw_nb1 t) n x).1 = x.1 ∧ ∀ j, ¬ j = 54 → (it (tw_nb1 t) n x).2.2.1 j = x.2.2.1 j := by
  intro n
  induction n with
  | zero => exact ⟨rfl, fun _ _ => rfl⟩
  | succ n ih =>
    rw [it]
    refine ⟨ih.1, fun j hj => ?_⟩
    unfold tw_nb1
    rw [tU_r, if_neg hj]; exact ih.2 j hj
theorem tw_ne_at {t : Int32} {x : TS} : ∀ n, (it (tw_ne1 t) n x).1 = x.1 ∧ ∀ j, ¬ j = 55 → (it (tw_ne1 t) n x).2.2.1 j = x.2.2.1 j := by
  intro n
  induction n with
  | zero => exact ⟨rfl, fun _ _ => rfl⟩
  | succ n ih =>
    rw [it]
    refine ⟨ih.1, fun j hj => ?_⟩
    unfold tw_ne1
    rw [tU_r, if_neg hj]; exact ih.2 j hj
theorem R_nb {S : Sh} {P : Pl} {nw T : Nat} {x : DS} {y : TS} {t : Int32} (h : R S P nw T x y) : R S P nw T x (tw_nb t y) := by
  unfold tw_nb
  obtain ⟨a, b⟩ := tw_nb_at (t := t) (x := y) 4
  generalize it (tw_nb1 t) 4 y = z at a b ⊢
  exact h.n a (fun j hj => b j (by omega))
theorem R_ne0 {S : Sh} {P : Pl} {nw T : Nat} {x : DS} {y z : TS} {t c2 c3 : Int32} (h : R S P nw T x y) (a : z.1 = y.1) (b : ∀ j, ¬ j = 55 → z.2.2.1 j = y.2.2.1 j) : R S P nw T x (tU (tU z 56 t c2) 57 t c3) := by
  refine h.n (z := tU (tU z 56 t c2) 57 t c3) a (fun j hj => ?_)
  rw [tU_r, if_neg (by omega), tU_r, if_neg (by omega)]
  exact b j (by omega)
theorem tw_ne_eq {t : Int32} {y : TS} : ∃ z c2 c3, tw_ne t y = tU (tU z 56 t c2) 57 t c3 ∧ z.1 = y.1 ∧ ∀ j, ¬ j = 55 → z.2.2.1 j = y.2.2.1 j :=
  ⟨it (tw_ne1 t) 4 y, _, _, rfl, (tw_ne_at 4).1, (tw_ne_at 4).2⟩
theorem R_ne {S : Sh} {P : Pl} {nw T : Nat} {x : DS} {y : TS} {t : Int32} (h : R S P nw T x y) : R S P nw T x (tw_ne t y) := by
  obtain ⟨z, c2, c3, e, a, b⟩ := tw_ne_eq (t := t) (y := y)
  rw [e]
  exact R_ne0 h a b
/-- nothing happens any more -/
theorem it_id {σ : Type} {f : Nat → σ → σ} {x : σ} : ∀ n, (∀ i, i < n → f i x = x) → it f n x = x := by
  intro n
  induction n with
  | zero => intro _; rfl
  | succ n ih => intro h; rw [it, ih (fun i hi => h i (by omega))]; exact h n (by omega)
theorem rPh.o {p a b : Int32} (h : rPh p a b) (h5 : 5 ≤ p) : p = 5 ∨ p = 6 := by
  rcases h with ⟨q, -⟩ | ⟨q, -⟩ | ⟨q, -⟩ | ⟨q, -⟩ | ⟨q, -⟩ | ⟨q, -⟩ | ⟨q, -⟩
  · subst q; exact absurd h5 (by decide)
  · subst q; exact absurd h5 (by decide)
  · subst q; exact absurd h5 (by decide)
  · subst q; exact absurd h5 (by decide)
  · subst q; exact absurd h5 (by decide)
  · exact Or.inl q
  · exact Or.inr q
theorem tw_over {S : Sh} {P : Pl} {nw T : Nat} {x : DS} {y : TS} (h : R S P nw T x y) (ho : ∀ b, b < P.nb → 5 ≤ y.2.2.1 32 b) (t : Int32) : tw_min t y = y := by
  have h20 := h.nb
  have hqm := h.qm
  have hqd := h.qd
  obtain ⟨h1, h2, hB, hM, hD, um, ud, hp⟩ := h
  have no : ∀ b, b < P.nb → ∀ v : Int32, (v = 0 ∨ v = 1 ∨ v = 2 ∨ v = 3 ∨ v = 4) → ¬ y.2.2.1 32 b = v := by
    intro b hb v hv e
    have := (hB b hb).2.1.o (ho b hb)
    rw [e] at this
    rcases hv with q | q | q | q | q <;> (subst q; rcases this with q | q <;> exact absurd q (by decide))
  have a43 : ∀ m, m < 3 → y.2.2.1 43 m = -1 := by
    intro m hm
    rcases (hM m hm).2.2.2 with q | ⟨-, b, hb, -, q⟩
    · exact q
    · exact absurd q (no b hb 1 (by decide))
  have a4 : ∀ d, d < 4 → y.2.2.1 47 d = -1 ∧ y.2.2.1 48 d = -1 := by
    intro d hd
    rcases (hD d hd).2.2.2 with q | ⟨b, hb, -, -, -, q⟩ | ⟨b, hb, -, -, -, q, -⟩
    · exact q.2
    · rcases q with q | q
      · exact absurd q (no b hb 2 (by decide))
      · exact absurd q (no b hb 3 (by decide))
    · exact absurd q (no b hb 4 (by decide))
  have c : ∀ i, i < 100000 → (nI i).toNatClampNeg = i := fun i hi => nIc hi
  have e1 : tw_fin t y = y := by
    unfold tw_fin
    rw [h1.hm, h1.hd, it_id (f := tw_fin1 t) _ (fun i hi => ?_), it_id _ (fun i hi => ?_)]
    · unfold tw_fin2; rw [if_pos (show tA y 48 (nI i) = -1 by simp only [tA, c i (by omega)]; exact (a4 i (by omega)).2)]
    · unfold tw_fin1; rw [if_pos (show tA y 43 (nI i) = -1 by simp only [tA, c i (by omega)]; exact a43 i (by omega))]
  have e2 : tw_los t y = y := by
    unfold tw_los
    rw [h1.2.2.2.1]
    refine it_id _ (fun i hi => ?_)
    unfold tw_los1
    rw [if_neg]
    simp only [tA, c i (by omega)]
    rintro (q | q)
    · exact no i hi 2 (by decide) q
    · exact no i hi 3 (by decide) q
  have e3 : tw_res y = y := by
    unfold tw_res
    rw [h1.hd]
    refine it_id _ (fun i hi => ?_)
    unfold tw_res1
    have hb : tw_best y (nI i) = -1 := by
      unfold tw_best
      rw [h1.2.2.2.1]
      refine it_id _ (fun b hb => ?_)
      unfold tw_bst1
      rw [if_neg]
      simp only [tA, c b (by omega)]
      rintro (q | q)
      · exact no b hb 2 (by decide) q
      · exact no b hb 3 (by decide) q
    rw [hb]
    split
    · exact tU_same (by rw [c i (by omega)]; exact (a4 i (by omega)).1)
    · rfl
  have e4 : tw_bak t y = y := by
    unfold tw_bak
    rw [h1.hd]
    refine it_id _ (fun i hi => ?_)
    unfold tw_bak1; rw [if_pos (show tA y 47 (nI i) = -1 by simp only [tA, c i (by omega)]; exact (a4 i (by omega)).1)]
  have e5 : tw_she y = y := by
    unfold tw_she
    rw [h1.2.2.2.1]
    rw [it_id (f := tw_she1) _ (fun i hi => ?_)]
    unfold tw_she1
    split
    · rfl
    · rw [if_neg]
      simp only [tA, c i (by omega)]
      exact no i hi 2 (by decide)
  have e6 : tw_mix t y = y := by
    unfold tw_mix
    rw [h1.hm]
    refine it_id _ (fun i hi => ?_)
    unfold tw_mix1
    have : tw_next t y = -1 := by
      unfold tw_next
      rw [h1.2.2.2.1]
      refine ff_none (fun j hj q => ?_)
      have q := q.1
      simp only [tA, c j (by omega)] at q
      exact no j hj 0 (by decide) q
    rw [this, if_pos rfl]
    split <;> rfl
  have e7 : tw_gro y = y := by
    unfold tw_gro
    rw [h1.2.2.2.1]
    refine it_id _ (fun i hi => ?_)
    unfold tw_gro1 tw_gr1
    have n2 : ¬ tA y 32 (nI i) = 2 := by simp only [tA, c i (by omega)]; exact no i hi 2 (by decide)
    have n3 : ¬ tA y 32 (nI i) = 3 := by simp only [tA, c i (by omega)]; exact no i hi 3 (by decide)
    rw [if_neg n2]
    unfold tw_gr2
    rw [if_neg n3]
  have e8 : tw_hea y = y := by
    unfold tw_hea
    rw [h1.hd]
    refine it_id _ (fun i hi => ?_)
    unfold tw_hea1 tw_he1
    rw [if_pos (show tA y 48 (nI i) = -1 by simp only [tA, c i (by omega)]; exact (a4 i (by omega)).2)]
    unfold tw_he2
    rw [if_pos (show tA y 47 (nI i) = -1 by simp only [tA, c i (by omega)]; exact (a4 i (by omega)).1)]
  unfold tw_min
  rw [e1, e2, e3, e4, e5, e6, e7, e8]
/-- a run of the day -/
abbrev dy_ov (P : Pl) (x : DS) : Prop := ∀ b, b < P.nb → 4 ≤ eG x 0 (nI b)
def dy_rn1 (S : Sh) (P : Pl) (t : Nat) (x : DS) : DS := if dy_ov P x then x else dy_mnt S P (nI t) x
def dy_run (S : Sh) (P : Pl) (n : Nat) (x : DS) : DS := it (dy_rn1 S P) n x
theorem R_rn1 {S : Sh} {P : Pl} {nw t : Nat} {x : DS} {y : TS} (h : R S P nw t x y) (ht : t < 1440) : R S P nw (t + 1) (dy_rn1 S P t x) (tw_day1 t y) := by
  have h20 := h.nb
  have hb := R_nb (t := nI t) h
  unfold dy_rn1 tw_day1
  refine R_ne ?_
  split
  · rename_i c
    rw [tw_over hb (fun b hb' => ?_)]
    · exact hb.mono (by omega)
    · have := c b hb'
      simp only [eG, nIc (show b < 100000 by omega)] at this
      exact (hb.2.2.1 b hb').2.1.over.mp this
  · exact R_mnt hb ht
theorem R_run {S : Sh} {P : Pl} {nw : Nat} {x : DS} {y : TS} (h : R S P nw 0 x y) : ∀ n, n ≤ 1440 → R S P nw n (dy_run S P n x) (it tw_day1 n y) := by
  refine it_simI (f := dy_rn1 S P) (g := tw_day1) (fun n x y => R S P nw n x y) h 1440 ?_
  intro i x y hi q
  exact R_rn1 q hi
