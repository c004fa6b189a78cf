/-! the day against the twin: reserving, baking, shelves -/
set_option maxRecDepth 100000
theorem i32_sub {a b : Int32} (h1 : -1000000 ≤ a.toInt ∧ a.toInt ≤ 1000000) (h2 : -1000000 ≤ b.toInt ∧ b.toInt ≤ 1000000) : (a - b).toInt = a.toInt - b.toInt := by
  rw [Int32.toInt_sub]
  exact Int.bmod_eq_of_le (by omega) (by omega)
theorem i32_add {a b : Int32} (h1 : -1000000 ≤ a.toInt ∧ a.toInt ≤ 1000000) (h2 : -1000000 ≤ b.toInt ∧ b.toInt ≤ 1000000) : (a + b).toInt = a.toInt + b.toInt := by
  rw [Int32.toInt_add]
  exact Int.bmod_eq_of_le (by omega) (by omega)
theorem i32_neg {a : Int32} (h1 : -1000000 ≤ a.toInt ∧ a.toInt ≤ 1000000) : (-a).toInt = -a.toInt := by
  rw [Int32.toInt_neg]
  exact Int.bmod_eq_of_le (by omega) (by omega)
theorem nIt {a : Nat} (h : a < 100000) : (nI a).toInt = (a : Int) := nI_toInt (by omega)
theorem i0 : (0 : Int32).toInt = 0 := by decide
theorem im1 : (-1 : Int32).toInt = -1 := by decide
theorem nI_s1 {a s : Nat} (h : 1 ≤ s) : nI a + nI s - 1 = nI (a + s - 1) := by
  rw [nI_add, show (1 : Int32) = nI 1 from rfl, pk_sub (by omega)]
theorem n_max {r a : Nat} (hr : r < 100000) (ha : a < 100000) : dy_max 0 (nI r - nI a) = nI (r - a) := by
  unfold dy_max
  by_cases h : a ≤ r
  · rw [pk_sub h]
    by_cases e : r - a = 0
    · rw [e, if_neg (by decide)]; rfl
    · rw [if_pos (by rw [show (0 : Int32) = nI 0 from rfl]; exact nI_lt (by omega) (by omega))]
  · rw [if_neg, show r - a = 0 by omega]; · rfl
    rw [Int32.lt_iff_toInt_lt, pk_sub_toInt (by omega) (by omega), i0]; omega
theorem n_abs {u g : Nat} (hu : u < 100000) (hg : g < 100000) : dy_abs (nI u - nI g) = nI (if u < g then g - u else u - g) := by
  unfold dy_abs
  by_cases h : u < g
  · rw [if_neg, if_pos h]
    · apply Int32.toInt_inj.mp
      rw [i32_sub (by rw [i0]; omega) (by rw [pk_sub_toInt (by omega) (by omega)]; omega), pk_sub_toInt (by omega) (by omega), i0, nIt (by omega)]
      omega
    · rw [Int32.le_iff_toInt_le, pk_sub_toInt (by omega) (by omega), i0]; omega
  · rw [if_pos, if_neg h, pk_sub (by omega)]
    rw [Int32.le_iff_toInt_le, pk_sub_toInt (by omega) (by omega), i0]; omega
theorem n_apart {u g : Nat} (hu : u < 100000) (hg : g < 100000) : tw_apart (nI u) (nI g) = nI (if u < g then g - u else u - g) := by
  unfold tw_apart
  by_cases h : u < g
  · rw [if_pos (nI_lt h (by omega)), if_pos h, pk_sub (by omega)]
  · rw [if_neg (nI_nlt (by omega) (by omega)), if_neg h, pk_sub (by omega)]
theorem n_up {a s : Nat} (ha : a < 100000) (h1 : 1 ≤ s) (h2 : s ≤ 100) : (nI a + nI s - 1) / nI s = nI ((a + s - 1) / s) := by
  rw [nI_s1 h1, pk_div (by omega) (by omega) (by omega)]
/-- parts -/
theorem R.pa {S : Sh} {P : Pl} {nw T b : Nat} {x : DS} {y : TS} (h : R S P nw T x y) (hT : T ≤ 1440) (hb : b < P.nb) : ∃ a, a ≤ 8 * T ∧ a ≤ 11520 ∧ y.2.2.1 33 b = nI a ∧ x.2.2 9 b = nI a := by
  obtain ⟨a, h1, h2⟩ := (h.2.2.1 b hb).2.2.1
  exact ⟨a, h1, by omega, h2, (h.2.2.1 b hb).1.2.2.2.2.2.2.2.2.1.trans h2⟩
theorem R.deg {S : Sh} {P : Pl} {nw T d : Nat} {x : DS} {y : TS} (h : R S P nw T x y) (hd : d < 4) : ∃ a, 100 ≤ a ∧ a ≤ 300 ∧ y.2.2.1 50 d = nI a ∧ x.2.2 17 d = nI a := by
  obtain ⟨a, h1, h2, h3⟩ := (h.2.2.2.2.1 d hd).2.2.1
  exact ⟨a, h1, h2, h3, (h.2.2.2.2.1 d hd).1.trans h3⟩
theorem R_can {S : Sh} {P : Pl} {nw T d b : Nat} {x : DS} {y : TS} (h : R S P nw T x y) (hT : T ≤ 1440) (hd : d < 4) (hb : b < P.nb) : dy_can S P x (nI d) (nI b) ↔ tw_ripening y (nI b) ≤ tw_heating y (nI d) (nI b) := by
  have h20 := h.nb
  obtain ⟨r, o, r1, r2, r3, r4, r5, r6, r7⟩ := h.1.ripe hb
  obtain ⟨a, a1, a2, a3, a4⟩ := h.pa hT hb
  obtain ⟨g, g1, g2, g3, g4⟩ := h.deg hd
  obtain ⟨p, s, v, dg, mx, pr, wi, bk, ht, g0, rg, e1, e2, e3, e4, e5, e6, e7, e8, e9, e10, e11⟩ := h.1.b hb
  obtain ⟨sl, l1, l2, l3⟩ := h.1.2.1.slow
  obtain ⟨ra, k1, k2, k3⟩ := h.1.2.1.rate
  have l4 : tG y 4 = nI sl := (h.1.g (i := 4) (by decide)).trans l3
  have k4 : tG y 5 = nI ra := (h.1.g (i := 5) (by decide)).trans k3
  have cb : (nI b).toNatClampNeg = b := nIc (by omega)
  have cd : (nI d).toNatClampNeg = d := nIc (by omega)
  have x1 := pX_of (S := S) (k := b) (by omega) (by omega) e1 e2
  have A : (dy_max 0 (dy_ripe S P (nI b) - eG x 9 (nI b)) + pS P 4 - 1) / pS P 4 = nI ((r - a + sl - 1) / sl) := by
    rw [r5, show eG x 9 (nI b) = nI a by simp only [eG, cb]; exact a4, show pS P 4 = nI sl from l3, n_max (by omega) (by omega), n_up (by omega) (by omega) (by omega)]
  have B : tw_ripening y (nI b) = nI ((r - a + sl - 1) / sl) := by
    unfold tw_ripening
    rw [r4, show tA y 33 (nI b) = nI a by simp only [tA, cb]; exact a3, l4]
    by_cases q : r ≤ a
    · rw [if_pos (nI_le q (by omega)), show r - a + sl - 1 = sl - 1 by omega, Nat.div_eq_of_lt (by omega)]; rfl
    · rw [if_neg (nI_ge (by omega) (by omega)), pk_sub (by omega), n_up (by omega) (by omega) (by omega)]
  have C : (dy_abs ((pX S P (nI b)).2.2.2.2.2.2 - eG x 17 (nI d)) + pS P 5 - 1) / pS P 5 = nI (((if ht < g then g - ht else ht - g) + ra - 1) / ra) := by
    rw [x1, show eG x 17 (nI d) = nI g by simp only [eG, cd]; exact g4, show pS P 5 = nI ra from k3]
    show (dy_abs (nI ht - nI g) + nI ra - 1) / nI ra = _
    rw [n_abs (by omega) (by omega), n_up (by split <;> omega) (by omega) (by omega)]
  have D : tw_heating y (nI d) (nI b) = nI (((if ht < g then g - ht else ht - g) + ra - 1) / ra) := by
    unfold tw_heating
    rw [e3, e11, show tA y 50 (nI d) = nI g by simp only [tA, cd]; exact g3, k4, n_apart (by omega) (by omega), n_up (by split <;> omega) (by omega) (by omega)]
  show _ ≤ _ ↔ _
  rw [A, B, C, D]
theorem R_key {S : Sh} {P : Pl} {nw T b : Nat} {x : DS} {y : TS} (h : R S P nw T x y) (hT : T ≤ 1440) (hb : b < P.nb) : dy_key S P x (nI b) = tw_rank y (nI b) ∧ -20000 ≤ (tw_rank y (nI b)).toInt ∧ (tw_rank y (nI b)).toInt ≤ 20000 := by
  have h20 := h.nb
  obtain ⟨r, o, r1, r2, r3, r4, r5, r6, r7⟩ := h.1.ripe hb
  obtain ⟨a, a1, a2, a3, a4⟩ := h.pa hT hb
  obtain ⟨p, s, v, dg, mx, pr, wi, bk, ht, g0, rg, e1, e2, e3, e4, e5, e6⟩ := h.1.b hb
  have cb : (nI b).toNatClampNeg = b := nIc (by omega)
  have hpo : tG y 7 = P.po := h.1.2.2.2.2.2.1
  unfold dy_key tw_rank
  rw [hpo, r6, r7, show eG x 9 (nI b) = nI a by simp only [eG, cb]; exact a4, show tA y 33 (nI b) = nI a by simp only [tA, cb]; exact a3, cb, e1, e5]
  refine ⟨rfl, ?_⟩
  split
  · rw [nIt (by omega)]; omega
  · split
    · rw [pk_sub_toInt (by omega) (by omega)]; omega
    · rw [nIt (by omega)]; omega
theorem R_bet {S : Sh} {P : Pl} {nw T b k : Nat} {x : DS} {y : TS} (h : R S P nw T x y) (hT : T ≤ 1440) (hb : b < P.nb) (hk : k < b) : dy_bet S P x (nI b) (nI k) ↔ ¬ tw_rank y (nI k) ≤ tw_rank y (nI b) := by
  have h20 := h.nb
  obtain ⟨k1, k2, k3⟩ := R_key h hT hb
  obtain ⟨j1, j2, j3⟩ := R_key h hT (show k < P.nb by omega)
  unfold dy_bet
  rw [k1, j1, Int32.lt_iff_toInt_lt, i32_sub (by omega) (by omega), i0, Int32.le_iff_toInt_le]
  constructor
  · rintro (q | ⟨-, q⟩)
    · omega
    · exact absurd q (nI_nlt (by omega) (by omega))
  · intro q; exact Or.inl (by omega)
theorem R_kept {S : Sh} {P : Pl} {nw T b : Nat} {x : DS} {y : TS} (h : R S P nw T x y) (hb : b < P.nb) (hpl : y.2.2.1 32 b = 2 ∨ y.2.2.1 32 b = 3) : (∃ e : Nat, e < 4 ∧ eG x 16 (nI e) = nI b) ↔ ∃ d, d < pd y ∧ tA y 47 (nI d) = nI b := by
  have h20 := h.nb
  have hqd := h.qd
  obtain ⟨h1, h2, hB, hM, hD, um, ud, hp⟩ := h
  rw [h1.hd]
  constructor
  · rintro ⟨e, he, q⟩
    have ce : (nI e).toNatClampNeg = e := nIc (by omega)
    have q : x.2.2 16 e = nI b := by simp only [eG, ce] at q; exact q
    obtain ⟨-, -, -, n4⟩ := hD e he
    refine ⟨e, Nat.not_le.mp (fun z => nIm (by omega) (q.symm.trans (hp e z he))), ?_⟩
    simp only [tA, ce]
    rcases n4 with ⟨f1, f2, f3⟩ | ⟨b2, hb2, f3, f4, f5, f6⟩ | ⟨b2, hb2, f3, f4, f5, f6, f7⟩
    · exact absurd (q.symm.trans f1) (nIm (by omega))
    · rw [f4, ← f3]; exact q
    · have e3 := nIi (by omega) (by omega) (f3.symm.trans q)
      subst e3
      rcases hpl with z | z <;> (rw [z] at f6; exact absurd f6 (by decide))
  · rintro ⟨e, he, q⟩
    have ce : (nI e).toNatClampNeg = e := nIc (by omega)
    have q : y.2.2.1 47 e = nI b := by simp only [tA, ce] at q; exact q
    obtain ⟨-, -, -, n4⟩ := hD e (by omega)
    refine ⟨e, by omega, ?_⟩
    simp only [eG, ce]
    rcases n4 with ⟨f1, f2, f3⟩ | ⟨b2, hb2, f3, f4, f5, f6⟩ | ⟨b2, hb2, f3, f4, f5, f6, f7⟩
    · exact absurd (q.symm.trans f2) (nIm (by omega))
    · rw [f3, ← f4]; exact q
    · exact absurd (q.symm.trans f4) (nIm (by omega))
theorem R_bst {S : Sh} {P : Pl} {nw T d : Nat} {x : DS} {y : TS} (h : R S P nw T x y) (hT : T ≤ 1440) (hd : d < 4) : ∀ n, n ≤ P.nb → it (dy_bst1 S P x (nI d)) n (-1) = it (tw_bst1 y (nI d)) n (-1) ∧ (it (tw_bst1 y (nI d)) n (-1) = -1 ∨ ∃ k, k < n ∧ it (tw_bst1 y (nI d)) n (-1) = nI k ∧ (y.2.2.1 32 k = 2 ∨ y.2.2.1 32 k = 3) ∧ ∀ e, e < 4 → ¬ x.2.2 16 e = nI k) := by
  have h20 := h.nb
  intro n
  induction n with
  | zero => intro _; exact ⟨rfl, Or.inl rfl⟩
  | succ n ih =>
    intro hn
    obtain ⟨ih1, ih2⟩ := ih (by omega)
    have cn : (nI n).toNatClampNeg = n := nIc (by omega)
    have hn' : n < P.nb := by omega
    rw [it, it, ih1]
    generalize it (tw_bst1 y (nI d)) n (-1) = z at ih2
    have low : z = -1 ∨ ∃ k, k < n + 1 ∧ z = nI k ∧ (y.2.2.1 32 k = 2 ∨ y.2.2.1 32 k = 3) ∧ ∀ e, e < 4 → ¬ x.2.2 16 e = nI k := by
      rcases ih2 with q | ⟨k, k1, k2⟩
      · exact Or.inl q
      · exact Or.inr ⟨k, by omega, k2⟩
    unfold dy_bst1 tw_bst1
    have ph := (h.2.2.1 n hn').2.1
    by_cases hpl : y.2.2.1 32 n = 2 ∨ y.2.2.1 32 n = 3
    · rw [if_pos (show tA y 32 (nI n) = 2 ∨ tA y 32 (nI n) = 3 by simp only [tA, cn]; exact hpl)]
      have hk := R_kept h hn' hpl
      by_cases hq : ∃ d, d < pd y ∧ tA y 47 (nI d) = nI n
      · rw [if_pos hq, if_neg (fun q => q.2.1 (hk.mpr hq))]
        exact ⟨rfl, low⟩
      · rw [if_neg hq]
        have hc := R_can h hT hd hn'
        by_cases hr : tw_ripening y (nI n) ≤ tw_heating y (nI d) (nI n)
        · rw [if_pos hr, if_pos (show dy_may S P x (nI d) (nI n) from ⟨by simp only [eG, cn]; exact ph.two.mpr hpl, fun q => hq (hk.mp q), hc.mpr hr⟩)]
          have me : ∃ k, k < n + 1 ∧ nI n = nI k ∧ (y.2.2.1 32 k = 2 ∨ y.2.2.1 32 k = 3) ∧ ∀ e, e < 4 → ¬ x.2.2 16 e = nI k := ⟨n, by omega, rfl, hpl, fun e he q => hq (hk.mp ⟨e, he, by simp only [eG, nIc (show e < 100000 by omega)]; exact q⟩)⟩
          rcases ih2 with q | ⟨k, k1, k2, k3⟩
          · rw [if_pos q, if_pos q]; exact ⟨rfl, Or.inr me⟩
          · have nz : ¬ z = -1 := by rw [k2]; exact nIm (by omega)
            rw [if_neg nz, if_neg nz, k2]
            have hbt := R_bet h hT hn' k1
            by_cases q : tw_rank y (nI k) ≤ tw_rank y (nI n)
            · rw [if_pos q, if_neg (fun z => hbt.mp z q)]
              exact ⟨rfl, by rw [← k2]; exact low⟩
            · rw [if_neg q, if_pos (hbt.mpr q)]
              exact ⟨rfl, Or.inr me⟩
        · rw [if_neg hr, if_neg (fun q => hr (hc.mp q.2.2))]
          exact ⟨rfl, low⟩
    · rw [if_neg (show ¬ (tA y 32 (nI n) = 2 ∨ tA y 32 (nI n) = 3) by simp only [tA, cn]; exact hpl), if_neg (fun q => hpl (ph.two.mp (by have := q.1; simp only [eG, cn] at this; exact this)))]
      exact ⟨rfl, low⟩
theorem R_rs1 {S : Sh} {P : Pl} {nw T d : Nat} {x : DS} {y : TS} (h : R S P nw T x y) (hT : T ≤ 1440) (hd : d < qd P) : R S P nw T (dy_rs1 S P d x) (tw_res1 d y) := by
  have h0 := h
  have h20 := h.nb
  have hqd := h.qd
  have hd4 : d < 4 := by omega
  have cd : (nI d).toNatClampNeg = d := nIc (by omega)
  obtain ⟨bs1, bs2⟩ := R_bst h hT hd4 P.nb (Nat.le_refl _)
  obtain ⟨h1, h2, hB, hM, hD, um, ud, hp⟩ := h
  unfold dy_rs1 tw_res1
  obtain ⟨n1, n2, n3, n4⟩ := hD d hd4
  simp only [eG, tA, cd]
  have go : x.2.2 16 d = -1 → y.2.2.1 47 d = -1 → y.2.2.1 48 d = -1 → R S P nw T (eU x 16 (nI d) (dy_bst S P x (nI d))) (tU y 47 (nI d) (tw_best y (nI d))) := by
    intro f1 f2 f3
    unfold dy_bst tw_best
    rw [h1.2.2.2.1, bs1]
    generalize it (tw_bst1 y (nI d)) P.nb (-1) = z at bs2
    refine ⟨h1.k (by simp (disch := decide) only [rky_u]), h2, hB, hM, fun d' hd' => ?_, um, fun i j hi hj q => ?_, fun i hi hi4 => ?_⟩
    · by_cases e2 : d' = d
      · subst e2
        refine ⟨n1, n2, n3, ?_⟩
        rcases bs2 with q | ⟨k, k1, k2, k3, k4⟩
        · exact Or.inl ⟨by simp [eU_r, eU_1, eI_1, eI_2, tU_r, tU_f, sI_1, sI_2, upd_r, cd, q], by simp [eU_r, eU_1, eI_1, eI_2, tU_r, tU_f, sI_1, sI_2, upd_r, cd, q], f3⟩
        · exact Or.inr (Or.inl ⟨k, k1, by simp [eU_r, eU_1, eI_1, eI_2, tU_r, tU_f, sI_1, sI_2, upd_r, cd, k2], by simp [eU_r, eU_1, eI_1, eI_2, tU_r, tU_f, sI_1, sI_2, upd_r, cd, k2], f3, k3⟩)
      · obtain ⟨k1, k2, k3, k4⟩ := hD d' hd'
        refine ⟨k1, k2, k3, ?_⟩
        rcases k4 with ⟨g1, g2, g3⟩ | ⟨b2, hb2, g3, g4, g5, g6⟩ | ⟨b2, hb2, g3, g4, g5, g6, g7⟩
        · exact Or.inl ⟨by simp [eU_r, eU_1, eI_1, eI_2, tU_r, tU_f, sI_1, sI_2, upd_r, cd, e2, g1], by simp [eU_r, eU_1, eI_1, eI_2, tU_r, tU_f, sI_1, sI_2, upd_r, cd, e2, g2], g3⟩
        · exact Or.inr (Or.inl ⟨b2, hb2, by simp [eU_r, eU_1, eI_1, eI_2, tU_r, tU_f, sI_1, sI_2, upd_r, cd, e2, g3], by simp [eU_r, eU_1, eI_1, eI_2, tU_r, tU_f, sI_1, sI_2, upd_r, cd, e2, g4], g5, g6⟩)
        · exact Or.inr (Or.inr ⟨b2, hb2, by simp [eU_r, eU_1, eI_1, eI_2, tU_r, tU_f, sI_1, sI_2, upd_r, cd, e2, g3], by simp [eU_r, eU_1, eI_1, eI_2, tU_r, tU_f, sI_1, sI_2, upd_r, cd, e2, g4], g5, g6, g7⟩)
    · by_cases ei : i = d
      · by_cases ej : j = d
        · exact Or.inl (ei.trans ej.symm)
        · subst ei
          have q : z = x.2.2 16 j := by simpa [eU_r, eU_1, eI_1, eI_2, tU_r, tU_f, sI_1, sI_2, upd_r, cd, ej] using q
          rcases bs2 with r | ⟨k, k1, k2, k3, k4⟩
          · exact Or.inr (by simp [eU_r, eU_1, eI_1, eI_2, tU_r, tU_f, sI_1, sI_2, upd_r, cd, r])
          · exact absurd (q.symm.trans k2) (k4 j hj)
      · by_cases ej : j = d
        · subst ej
          have q : x.2.2 16 i = z := by simpa [eU_r, eU_1, eI_1, eI_2, tU_r, tU_f, sI_1, sI_2, upd_r, cd, ei] using q
          rcases bs2 with r | ⟨k, k1, k2, k3, k4⟩
          · exact Or.inr (by simp [eU_r, eU_1, eI_1, eI_2, tU_r, tU_f, sI_1, sI_2, upd_r, cd, ei]; exact q.trans r)
          · exact absurd (q.trans k2) (k4 i hi)
        · have := ud i j hi hj (by simpa [eU_r, eU_1, eI_1, eI_2, tU_r, tU_f, sI_1, sI_2, upd_r, cd, ei, ej] using q)
          simpa [eU_r, eU_1, eI_1, eI_2, tU_r, tU_f, sI_1, sI_2, upd_r, cd, ei] using this
    · have ei : ¬ i = d := by omega
      simpa [eU_r, eU_1, eI_1, eI_2, tU_r, tU_f, sI_1, sI_2, upd_r, cd, ei] using hp i hi hi4
  rcases n4 with ⟨f1, f2, f3⟩ | ⟨b, hb, f3, f4, f5, f6⟩ | ⟨b, hb, f3, f4, f5, f6, f7⟩
  · rw [if_pos f1, if_pos ⟨f2, f3⟩]
    exact go f1 f2 f3
  · rw [if_neg (by rw [f3]; exact nIm (by omega)), if_neg (fun q => nIm (by omega) (f4.symm.trans q.1))]; exact h0
  · rw [if_neg (by rw [f3]; exact nIm (by omega)), if_neg (fun q => nIm (by omega) (f5.symm.trans q.2))]; exact h0
theorem R_resN {S : Sh} {P : Pl} {nw T n : Nat} {x : DS} {y : TS} (h : R S P nw T x y) (hT : T ≤ 1440) (hn : n ≤ qd P) : R S P nw T (it (dy_rs1 S P) n x) (it tw_res1 n y) := by
  refine it_sim (f := dy_rs1 S P) (g := tw_res1) (fun x y => R S P nw T x y) h (qd P) ?_ n hn
  intro i x y hi q
  exact R_rs1 q hT hi
theorem R_res {S : Sh} {P : Pl} {nw T : Nat} {x : DS} {y : TS} (h : R S P nw T x y) (hT : T ≤ 1440) : R S P nw T (dy_res S P x) (tw_res y) := by
  unfold dy_res tw_res
  rw [h.1.hd]
  exact R_resN h hT (Nat.le_refl _)
theorem R_ba1 {S : Sh} {P : Pl} {nw T d t : Nat} {x : DS} {y : TS} (h : R S P nw T x y) (hT : T ≤ 1440) (hd : d < 4) (ht0 : t < 1440) : R S P nw T (dy_ba1 S P (nI t) d x) (tw_bak1 (nI t) d y) := by
  have h0 := h
  have h20 := h.nb
  have cd : (nI d).toNatClampNeg = d := nIc (by omega)
  have hpa := fun b (hb : b < P.nb) => h.pa hT hb
  obtain ⟨h1, h2, hB, hM, hD, um, ud, hp⟩ := h
  unfold dy_ba1 tw_bak1
  obtain ⟨n1, n2, n3, n4⟩ := hD d hd
  simp only [eG, tA, cd]
  rcases n4 with ⟨f1, f2, f3⟩ | ⟨b, hb, f3, f4, f5, f6⟩ | ⟨b, hb, f3, f4, f5, f6, f7⟩
  · rw [if_pos f1, if_pos f2]; exact h0
  · have cb : (nI b).toNatClampNeg = b := nIc (by omega)
    obtain ⟨r, o, r1, r2, r3, r4, r5, r6, r7⟩ := h1.ripe hb
    obtain ⟨a, a1, a2, a3, a4⟩ := hpa b hb
    obtain ⟨p, s, v, dg, mx, pr, wi, bk, ht, g0, rg, e1, e2, e3, e4, e5, e6, e7, e8, e9, e10, e11⟩ := h1.b hb
    obtain ⟨⟨q1, q2, q3, q4, q5, q6, q7, q8, q9, q10⟩, ph, i1, i2, i3, i4, i5, i6⟩ := hB b hb
    have x1 := pX_of (S := S) (k := b) (by omega) (by omega) e1 e2
    have cp : (nI p).toNatClampNeg = p := nIc (by omega)
    have hbk : bkT S P b = nI bk := by unfold bkT; rw [x1]
    have hht : (pX S P (nI b)).2.2.2.2.2.2 = nI ht := by rw [x1]
    have e3' : y.2.2.1 1 (y.1 2 + 9 + 3 * nI b + 0).toNatClampNeg = nI p := e3
    have e11' : y.2.2.1 11 p = nI ht := by have := e11; simp only [tA, cp] at this; exact this
    have e10' : y.2.2.1 10 p = nI bk := by have := e10; simp only [tA, cp] at this; exact this
    simp only [f3, f4, cb, r4, r5, a3, a4, hht, n1, e3', cp, e11']
    rw [if_neg (nIm (by omega)), if_neg (nIm (by omega)), if_pos (ph.two.mpr f6)]
    by_cases c1 : r ≤ a
    · rw [if_neg (nI_nlt c1 (by omega)), if_pos (nI_le c1 (by omega))]
      by_cases c2 : y.2.2.1 50 d = nI ht
      · rw [if_pos c2, if_pos c2]
        have key : R S P nw T (dy_baU (nI t) (nI d) (nI b) x) (tw_bakU (nI t) (nI d) (nI b) y) := by
          unfold dy_baU tw_bakU
          refine ⟨h1.k (by simp (disch := decide) only [rky_u]), h2, fun b' hb' => ?_, fun m' hm' => ?_, fun d' hd' => ?_, um, ud, hp⟩
          · by_cases e2 : b' = b
            · subst e2
              refine ⟨?_, ?_, ?_⟩
              · simp [rBe, eU_r, eU_1, eI_1, eI_2, tU_r, tU_f, sI_1, sI_2, upd_r, cb, cd, eG, tA, q1, q2, q3, q6, q7, q8, q9]
              · have : rPh 4 3 0 := Or.inr (Or.inr (Or.inr (Or.inr (Or.inl ⟨rfl, rfl, rfl⟩))))
                simpa [eU_r, eU_1, eI_1, eI_2, tU_r, tU_f, sI_1, sI_2, upd_r, cb, cd] using this
              · have : bI T 4 (y.2.2.1 33 b') (y.2.2.1 34 b') (y.2.2.1 35 b') (nI d) (nI t) (y.2.2.1 39 b') (y.2.2.1 33 b') := ⟨i1, fun q => by rcases q with q | q <;> exact absurd q (by decide), fun q => absurd q (by decide), fun _ => i4 (by rcases f6 with q | q <;> (rw [q]; decide)), i5, Or.inr ⟨⟨d, hd, rfl⟩, ⟨a, by omega, a3⟩, ⟨t, ht0, rfl⟩⟩⟩
                simpa [eU_r, eU_1, eI_1, eI_2, tU_r, tU_f, sI_1, sI_2, upd_r, cb, cd, tA] using this
            · have := hB b' hb'
              unfold rB rBe at this ⊢
              simpa [eU_r, eU_1, eI_1, eI_2, tU_r, tU_f, sI_1, sI_2, upd_r, cb, cd, e2] using this
          · obtain ⟨k1, k2, k3, k4⟩ := hM m' hm'
            refine ⟨k1, k2, k3, ?_⟩
            rcases k4 with k4 | ⟨k4, b2, hb2, j3, j4⟩
            · exact Or.inl k4
            · have hne : ¬ b2 = b := fun q => by
                subst q
                rcases f6 with q | q <;> (rw [q] at j4; exact absurd j4 (by decide))
              exact Or.inr ⟨k4, b2, hb2, j3, by simpa [eU_r, eU_1, eI_1, eI_2, tU_r, tU_f, sI_1, sI_2, upd_r, cb, hne] using j4⟩
          · by_cases e2 : d' = d
            · subst e2
              refine ⟨n1, n2, n3, Or.inr (Or.inr ⟨b, hb, f3, by simp [eU_r, eU_1, eI_1, eI_2, tU_r, tU_f, sI_1, sI_2, upd_r, cd], by simp [eU_r, eU_1, eI_1, eI_2, tU_r, tU_f, sI_1, sI_2, upd_r, cd], by simp [eU_r, eU_1, eI_1, eI_2, tU_r, tU_f, sI_1, sI_2, upd_r, cb], ?_⟩)⟩
              simp [eU_r, eU_1, eI_1, eI_2, tU_r, tU_f, sI_1, sI_2, upd_r, cd, cb, tA, tB, hbk]
              rw [show y.2.2.1 1 (y.1 2 + 9 + 3 * nI b).toNatClampNeg = nI p by have := e3'; rwa [Int32.add_zero] at this, cp, e10']
            · obtain ⟨k1, k2, k3, k4⟩ := hD d' hd'
              refine ⟨k1, k2, k3, ?_⟩
              rcases k4 with ⟨g1, g2, g3⟩ | ⟨b2, hb2, g3, g4, g5, g6⟩ | ⟨b2, hb2, g3, g4, g5, g6, g7⟩
              · exact Or.inl ⟨g1, by simp [eU_r, eU_1, eI_1, eI_2, tU_r, tU_f, sI_1, sI_2, upd_r, cd, e2, g2], by simp [eU_r, eU_1, eI_1, eI_2, tU_r, tU_f, sI_1, sI_2, upd_r, cd, e2, g3]⟩
              · have hne : ¬ b2 = b := fun q => by
                  subst q
                  rcases ud d' d hd' hd (g3.trans f3.symm) with q | q
                  · exact e2 q
                  · exact nIm (by omega) (g3.symm.trans q)
                exact Or.inr (Or.inl ⟨b2, hb2, g3, by simp [eU_r, eU_1, eI_1, eI_2, tU_r, tU_f, sI_1, sI_2, upd_r, cd, e2, g4], by simp [eU_r, eU_1, eI_1, eI_2, tU_r, tU_f, sI_1, sI_2, upd_r, cd, e2, g5], by simpa [eU_r, eU_1, eI_1, eI_2, tU_r, tU_f, sI_1, sI_2, upd_r, cb, hne] using g6⟩)
              · have hne : ¬ b2 = b := fun q => by
                  subst q
                  rcases f6 with q | q <;> (rw [q] at g6; exact absurd g6 (by decide))
                exact Or.inr (Or.inr ⟨b2, hb2, g3, by simp [eU_r, eU_1, eI_1, eI_2, tU_r, tU_f, sI_1, sI_2, upd_r, cd, e2, g4], by simp [eU_r, eU_1, eI_1, eI_2, tU_r, tU_f, sI_1, sI_2, upd_r, cd, e2, g5], by simpa [eU_r, eU_1, eI_1, eI_2, tU_r, tU_f, sI_1, sI_2, upd_r, cb, hne] using g6, by simp [eU_r, eU_1, eI_1, eI_2, tU_r, tU_f, sI_1, sI_2, upd_r, cd, cb, e2, hne, g7]⟩)
        exact key
      · rw [if_neg c2, if_neg c2]; exact h0
    · rw [if_pos (nI_lt (by omega) (by omega)), if_neg (nI_ge (by omega) (by omega))]
      split <;> exact h0
  · have cb : (nI b).toNatClampNeg = b := nIc (by omega)
    have ph := (hB b hb).2.1
    rw [f6] at ph
    simp only [f3, f4, cb, ph.p4.1]
    rw [if_neg (nIm (by omega)), if_neg (by decide), if_pos True.intro]; exact h0
theorem R_bakN {S : Sh} {P : Pl} {nw T t n : Nat} {x : DS} {y : TS} (h : R S P nw T x y) (hT : T ≤ 1440) (ht : t < 1440) (hn : n ≤ qd P) : R S P nw T (it (dy_ba1 S P (nI t)) n x) (it (tw_bak1 (nI t)) n y) := by
  refine it_sim (f := dy_ba1 S P (nI t)) (g := (tw_bak1 (nI t))) (fun x y => R S P nw T x y) h (qd P) ?_ n hn
  intro i x y hi q
  exact R_ba1 q hT (Nat.lt_of_lt_of_le hi (R.qd q)) ht
theorem R_bak {S : Sh} {P : Pl} {nw T t : Nat} {x : DS} {y : TS} (h : R S P nw T x y) (hT : T ≤ 1440) (ht : t < 1440) : R S P nw T (dy_bak S P (nI t) x) (tw_bak (nI t) y) := by
  unfold dy_bak tw_bak
  rw [h.1.hd]
  exact R_bakN h hT ht (Nat.le_refl _)
theorem ct_iff {p q : Nat → Prop} [DecidablePred p] [DecidablePred q] {n : Nat} (h : ∀ b, b < n → (p b ↔ q b)) : ct p n = ct q n := by
  induction n with
  | zero => rfl
  | succ n ih =>
    rw [ct, ct, ih (fun b hb => h b (by omega))]
    by_cases e : q n
    · rw [if_pos e, if_pos ((h n (by omega)).mpr e)]
    · rw [if_neg e, if_neg (fun z => e ((h n (by omega)).mp z))]
theorem ct_n {p : Nat → Prop} [DecidablePred p] {n : Nat} : ∃ u, u ≤ n ∧ ct p n = nI u := by
  induction n with
  | zero => exact ⟨0, Nat.le_refl _, rfl⟩
  | succ n ih =>
    obtain ⟨u, h1, h2⟩ := ih
    rw [ct]
    split
    · exact ⟨u + 1, by omega, by rw [h2, nI_1]⟩
    · exact ⟨u, by omega, h2⟩
def rSh (S : Sh) (P : Pl) (nw T : Nat) (s : DS × Int32) (r : TS × Int32) : Prop := R S P nw T s.1 r.1 ∧ ∃ u v : Nat, u ≤ 20 ∧ v ≤ 8 ∧ P.sf 2 = nI v ∧ r.2 = nI u ∧ s.2 = nI v - nI u
theorem R_sh1 {S : Sh} {P : Pl} {nw T b : Nat} {s : DS × Int32} {r : TS × Int32} (h : rSh S P nw T s r) (hT : T ≤ 1440) (hb : b < P.nb) : rSh S P nw T (dy_sh1 S P b s) (tw_she1 b r) := by
  have h0 := h
  obtain ⟨x, f⟩ := s
  obtain ⟨y, g⟩ := r
  obtain ⟨h, u, v, u1, v1, e1, e2, e3⟩ := h
  have h20 := R.nb h
  have hR := h
  have cb : (nI b).toNatClampNeg = b := nIc (by omega)
  obtain ⟨a, a1, a2, a3, a4⟩ := R.pa h hT hb
  obtain ⟨h1, h2, hB, hM, hD, um, ud, hp⟩ := h
  obtain ⟨ri, o, r1, r2, r3, r4, r5, r6, r7⟩ := h1.ripe hb
  obtain ⟨qe, ph, i1, i2, i3, i4, i5, i6⟩ := hB b hb
  have e4 : tG y 2 = nI v := (h1.g (i := 2) (by decide)).trans e1
  unfold dy_sh1 tw_she1
  simp only [eG, tA, cb]
  rw [e4, show g = nI u from e2, show f = nI v - nI u from e3, r4, r5, a3, a4]
  by_cases c : v ≤ u
  · rw [if_pos (nI_le c (by omega)), if_pos (by rw [Int32.le_iff_toInt_le, pk_sub_toInt (by omega) (by omega), i0]; omega)]
    exact ⟨hR, u, v, u1, v1, e1, rfl, rfl⟩
  · rw [if_neg (nI_ge (by omega) (by omega)), if_neg (by rw [Int32.le_iff_toInt_le, pk_sub_toInt (by omega) (by omega), i0]; omega)]
    have stay : rSh S P nw T (x, nI v - nI u) (y, nI u) := ⟨hR, u, v, u1, v1, e1, rfl, rfl⟩
    by_cases c2 : y.2.2.1 32 b = 2
    · have p2 := ph
      rw [c2] at p2
      have pz : x.2.2 0 b = 2 := p2.p2.1
      rw [if_pos c2, if_pos p2.p2.1, if_pos p2.p2.2]
      by_cases c3 : ri ≤ a
      · rw [if_neg (nI_nlt c3 (by omega)), if_pos (nI_le c3 (by omega))]
        refine ⟨⟨h1.k (by simp (disch := decide) only [rky_u]), h2, fun b' hb' => ?_, fun m' hm' => ?_, fun d' hd' => ?_, um, ud, hp⟩, u + 1, v, by omega, v1, e1, nI_1 u, ?_⟩
        · by_cases e2 : b' = b
          · subst e2
            refine ⟨qe, ?_, ?_⟩
            · have : rPh 3 2 1 := Or.inr (Or.inr (Or.inr (Or.inl ⟨rfl, rfl, rfl⟩)))
              simpa [eU_r, eU_1, eI_1, eI_2, tU_r, tU_f, sI_1, sI_2, upd_r, cb, pz] using this
            · have : bI T 3 (y.2.2.1 33 b') (y.2.2.1 34 b') (y.2.2.1 35 b') (y.2.2.1 37 b') (y.2.2.1 38 b') (y.2.2.1 39 b') (y.2.2.1 42 b') := ⟨i1, fun q => by rcases q with q | q <;> exact absurd q (by decide), fun q => absurd q (by decide), fun _ => i4 (by rw [c2]; decide), i5, i6⟩
              simpa [eU_r, eU_1, eI_1, eI_2, tU_r, tU_f, sI_1, sI_2, upd_r, cb] using this
          · have := hB b' hb'
            unfold rB rBe at this ⊢
            simpa [eU_r, eU_1, eI_1, eI_2, tU_r, tU_f, sI_1, sI_2, upd_r, cb, e2] using this
        · obtain ⟨k1, k2, k3, k4⟩ := hM m' hm'
          refine ⟨k1, k2, k3, ?_⟩
          rcases k4 with k4 | ⟨k4, b2, hb2, j3, j4⟩
          · exact Or.inl k4
          · have hne : ¬ b2 = b := fun q => by subst q; rw [c2] at j4; exact absurd j4 (by decide)
            exact Or.inr ⟨k4, b2, hb2, j3, by simpa [eU_r, eU_1, eI_1, eI_2, tU_r, tU_f, sI_1, sI_2, upd_r, cb, hne] using j4⟩
        · obtain ⟨k1, k2, k3, k4⟩ := hD d' hd'
          refine ⟨k1, k2, k3, ?_⟩
          rcases k4 with g1 | ⟨b2, hb2, g3, g4, g5, g6⟩ | ⟨b2, hb2, g3, g4, g5, g6, g7⟩
          · exact Or.inl g1
          · refine Or.inr (Or.inl ⟨b2, hb2, g3, g4, g5, ?_⟩)
            by_cases q : b2 = b
            · exact Or.inr (by simp [eU_r, eU_1, eI_1, eI_2, tU_r, tU_f, sI_1, sI_2, upd_r, cb, q])
            · simpa [eU_r, eU_1, eI_1, eI_2, tU_r, tU_f, sI_1, sI_2, upd_r, cb, q] using g6
          · have hne : ¬ b2 = b := fun q => by subst q; rw [c2] at g6; exact absurd g6 (by decide)
            exact Or.inr (Or.inr ⟨b2, hb2, g3, g4, g5, by simpa [eU_r, eU_1, eI_1, eI_2, tU_r, tU_f, sI_1, sI_2, upd_r, cb, hne] using g6, g7⟩)
        · apply Int32.toInt_inj.mp
          rw [i32_add (by rw [pk_sub_toInt (by omega) (by omega)]; omega) (by rw [im1]; omega), pk_sub_toInt (by omega) (by omega), pk_sub_toInt (by omega) (by omega), im1]
          omega
      · rw [if_pos (nI_lt (by omega) (by omega)), if_neg (nI_ge (by omega) (by omega))]; exact stay
    · rw [if_neg c2]
      by_cases c3 : x.2.2 0 b = 2
      · rw [if_pos c3, if_neg (fun q => c2 (ph.room.mp ⟨c3, q⟩))]; exact stay
      · rw [if_neg c3]; exact stay
theorem R_she0 {S : Sh} {P : Pl} {nw T : Nat} {x : DS} {y : TS} (h : R S P nw T x y) : rSh S P nw T (x, pS P 2 - ct (fun b => ¬ eG x 11 (nI b) = 0) P.nb) (y, ct (fun b => tA y 32 (nI b) = 3) P.nb) := by
  have h20 := h.nb
  obtain ⟨v, v1, e1⟩ := h.1.2.1.2.2.2.2.2.2.1
  have e2 : ct (fun b => ¬ eG x 11 (nI b) = 0) P.nb = ct (fun b => tA y 32 (nI b) = 3) P.nb := ct_iff (fun b hb => by
    have cb : (nI b).toNatClampNeg = b := nIc (by omega)
    simp only [eG, tA, cb]
    exact (h.2.2.1 b hb).2.1.sh)
  obtain ⟨u, u1, e3⟩ := ct_n (p := fun b => tA y 32 (nI b) = 3) (n := P.nb)
  exact ⟨h, u, v, by omega, v1, e1, e3, by rw [e2, e3]; show P.sf 2 - _ = _; rw [e1]⟩
theorem R_sheN {S : Sh} {P : Pl} {nw T n : Nat} {x : DS} {y : TS} (h : R S P nw T x y) (hT : T ≤ 1440) (hn : n ≤ P.nb) : rSh S P nw T (it (dy_sh1 S P) n (x, pS P 2 - ct (fun b => ¬ eG x 11 (nI b) = 0) P.nb)) (it tw_she1 n (y, ct (fun b => tA y 32 (nI b) = 3) P.nb)) := by
  refine it_sim (f := dy_sh1 S P) (g := tw_she1) (fun s r => rSh S P nw T s r) (R_she0 h) P.nb ?_ n hn
  intro i x y hi q
  exact R_sh1 q hT hi
theorem R_she {S : Sh} {P : Pl} {nw T : Nat} {x : DS} {y : TS} (h : R S P nw T x y) (hT : T ≤ 1440) : R S P nw T (dy_she S P x) (tw_she y) := by
  unfold dy_she tw_she
  rw [h.1.2.2.2.1]
  exact (R_sheN h hT (Nat.le_refl _)).1
