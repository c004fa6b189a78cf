/-! the day against the twin: what comes of it -/
set_option maxRecDepth 100000
def dy_ut1 (S : Sh) (P : Pl) (b : Int32) (t : Nat) (x : DS) : DS := if 4 ≤ eG x 0 b then x else dy_mnt S P (nI t) x
/-- how many minutes tell whether batch b is done -/
def dy_utN (S : Sh) (P : Pl) (b : Nat) : Nat := (S.wf (P.bx b).2.2.toNatClampNeg).toNatClampNeg + 1 - (P.sf 6).toNatClampNeg
theorem R_ut {S : Sh} {P : Pl} {nw b : Nat} {x : DS} {y : TS} (h : R S P nw 0 x y) (hb : b < P.nb) : ∀ n, n ≤ 1440 → R S P nw n (it (dy_ut1 S P (nI b)) n x) (it (tw_unt1 (nI b)) n y) := by
  refine it_simI (f := dy_ut1 S P (nI b)) (g := tw_unt1 (nI b)) (fun n x y => R S P nw n x y) h 1440 ?_
  intro i x y hi q
  have h20 := R.nb q
  have cb : (nI b).toNatClampNeg = b := nIc (by omega)
  have ph := (q.2.2.1 b hb).2.1
  unfold dy_ut1 tw_unt1
  simp only [eG, tA, cb]
  by_cases c : 5 ≤ y.2.2.1 32 b
  · rw [if_pos c, if_pos (ph.over.mpr c)]; exact R.mono q (by omega)
  · rw [if_neg c, if_neg (fun z => c (ph.over.mp z))]; exact R_mnt q hi
theorem R_state {S : Sh} {P : Pl} {nw T b : Nat} {x : DS} {y : TS} (h : R S P nw T x y) (hb : b < P.nb) : dy_state S P x (nI b) = tw_state y (nI b) := by
  have h20 := h.nb
  have cb : (nI b).toNatClampNeg = b := nIc (by omega)
  obtain ⟨p, s, v, dg, mx, pr, wi, bk, ht, g0, rg, e1, e2, e3, e4, e5, -⟩ := h.1.b hb
  have cv : (nI v).toNatClampNeg = v := nIc (by omega)
  obtain ⟨c6, k1, k2⟩ := h.1.2.1.2.2.2.2.2.2.2.2.1
  have k3 : tG y 6 = nI c6 := (h.1.g (i := 6) (by decide)).trans k2
  have hw := h.1.2.2.1.2 v g0.2.2.2.1
  obtain ⟨m, m1, m2⟩ := h.1.2.1.2.2.2.2.2.1 v g0.2.2.2.1
  obtain ⟨⟨q1, q2, q3, q4, q5, q6, q7, q8, q9, q10⟩, ph, i1, i2, i3, i4, i5, i6⟩ := h.2.2.1 b hb
  unfold dy_state tw_state
  rw [cb, e1, e5, k3, show pS P 6 = nI c6 from k2]
  simp only [eG, tA, cb, cv, q6, hw, m2]
  by_cases c : y.2.2.1 32 b = 6
  · rw [if_pos c, if_pos (ph.five.mpr c)]
  · rw [if_neg c, if_neg (fun z => c (ph.five.mp z))]
    by_cases c5 : y.2.2.1 32 b = 5
    · obtain ⟨t, t1, t2⟩ := i3 c5
      rw [if_pos c5, t2, if_neg (nIm (by omega)), nI_add]
      by_cases c7 : t + c6 ≤ m
      · rw [if_pos (nI_le c7 (by omega)), if_neg (nI_nlt c7 (by omega))]
      · rw [if_neg (nI_ge (by omega) (by omega)), if_pos (nI_lt (by omega) (by omega))]
    · rw [if_neg c5, i4 c5, if_pos rfl]
theorem R_num {S : Sh} {P : Pl} {nw T : Nat} {x : DS} {y : TS} {u : Int32} (h : R S P nw T x y) : ct (fun b => dy_state S P x (nI b) = u) P.nb = tw_num y u := by
  unfold tw_num
  rw [h.1.2.2.2.1]
  exact ct_iff (fun b hb => by rw [R_state h hb])
theorem R_last {S : Sh} {P : Pl} {nw T : Nat} {x : DS} {y : TS} (h : R S P nw T x y) : dy_last x P.nb = tw_last y ∧ ∃ t, t < 1440 ∧ tw_last y = nI t := by
  have h20 := h.nb
  unfold tw_last
  rw [h.1.2.2.2.1]
  have key : ∀ n, n ≤ P.nb → dy_last x n = it (tw_last1 y) n 0 ∧ ∃ t, t < 1440 ∧ it (tw_last1 y) n 0 = nI t := by
    intro n
    induction n with
    | zero => intro _; exact ⟨rfl, 0, by decide, rfl⟩
    | succ n ih =>
      intro hn
      obtain ⟨ih1, t, t1, t2⟩ := ih (by omega)
      have cn : (nI n).toNatClampNeg = n := nIc (by omega)
      obtain ⟨⟨q1, q2, q3, q4, q5, q6, q7, q8, q9, q10⟩, ph, i1, i2, i3, i4, i5, i6⟩ := h.2.2.1 n (by omega)
      rw [dy_last, it, ih1, t2]
      unfold tw_last1 dy_max
      simp only [eG, tA, cn, q6]
      by_cases c5 : y.2.2.1 32 n = 5
      · obtain ⟨s, s1, s2⟩ := i3 c5
        rw [if_pos c5, s2]
        by_cases c : s ≤ t
        · rw [if_neg (nI_nlt c (by omega)), if_pos (nI_le c (by omega))]; exact ⟨rfl, t, t1, rfl⟩
        · rw [if_pos (nI_lt (by omega) (by omega)), if_neg (nI_ge (by omega) (by omega))]; exact ⟨rfl, s, s1, rfl⟩
      · rw [if_neg c5, i4 c5, if_neg]
        · exact ⟨rfl, t, t1, rfl⟩
        · rw [Int32.lt_iff_toInt_lt, nIt (by omega), im1]; omega
  exact key P.nb (Nat.le_refl _)
/-- when batch b is baked in a minute, it is baked at that minute -/
def bAt (b : Nat) (t : Int32) (y : TS) : Prop := y.2.2.1 32 b = 5 → y.2.2.1 39 b = t
theorem bAt.k {b : Nat} {t : Int32} {y z : TS} (h : bAt b t y) (e1 : z.2.2.1 32 b = y.2.2.1 32 b) (e2 : z.2.2.1 39 b = y.2.2.1 39 b) : bAt b t z := by
  unfold bAt; rw [e1, e2]; exact h
theorem bAt_u {b j : Nat} {t i v : Int32} {y : TS} (h : bAt b t y) (h1 : ¬ j = 32) (h2 : ¬ j = 39) : bAt b t (tU y j i v) :=
  h.k (by rw [tU_r, if_neg (fun q => h1 q.symm)]) (by rw [tU_r, if_neg (fun q => h2 q.symm)])
theorem bAt_32 {b : Nat} {t i v : Int32} {y : TS} (h : bAt b t y) (hv : ¬ v = 5) : bAt b t (tU y 32 i v) := by
  unfold bAt
  simp only [tU_r, upd_r]
  intro q
  by_cases c : b = i.toNatClampNeg
  · simp [c, upd_r] at q; exact absurd q hv
  · simp [c, upd_r] at q ⊢; exact h q
theorem bAt_53 {b : Nat} {t i : Int32} {y : TS} (h : bAt b t y) : bAt b t (tU (tU y 32 i 5) 39 i t) := by
  unfold bAt
  simp only [tU_r, upd_r]
  intro q
  by_cases c : b = i.toNatClampNeg
  · simp [c, upd_r]
  · simp [c, upd_r] at q ⊢; exact h q
theorem bAt_it {f : Nat → TS → TS} {b : Nat} {t : Int32} (h : ∀ i y, bAt b t y → bAt b t (f i y)) (n : Nat) {y : TS} (h0 : bAt b t y) : bAt b t (it f n y) :=
  it_inv (bAt b t) h0 n (fun i y _ q => h i y q) n (Nat.le_refl _)
theorem bAt_min {b : Nat} {t : Int32} {y : TS} (h : bAt b t y) : bAt b t (tw_min t y) := by
  have e1 : ∀ y, bAt b t y → bAt b t (tw_fin t y) := fun y h => by
    refine bAt_it (fun i y h => ?_) _ (bAt_it (fun i y h => ?_) _ h)
    · unfold tw_fin2; repeat' split
      · exact h
      · exact bAt_u (bAt_53 h) (by decide) (by decide)
      · exact h
    · unfold tw_fin1; repeat' split
      · exact h
      · exact bAt_u (bAt_u (bAt_32 (bAt_u h (by decide) (by decide)) (by decide)) (by decide) (by decide)) (by decide) (by decide)
      · exact h
  have e2 : ∀ y, bAt b t y → bAt b t (tw_los t y) := fun y h => by
    refine bAt_it (fun i y h => ?_) _ h
    unfold tw_los1; repeat' split
    · refine bAt_it (fun j y h => ?_) _ (bAt_u (bAt_32 h (by decide)) (by decide) (by decide))
      unfold tw_unr1; split
      · exact bAt_u h (by decide) (by decide)
      · exact h
    · exact h
    · exact h
  have e3 : ∀ y, bAt b t y → bAt b t (tw_res y) := fun y h => by
    refine bAt_it (fun i y h => ?_) _ h
    unfold tw_res1; split
    · exact bAt_u h (by decide) (by decide)
    · exact h
  have e4 : ∀ y, bAt b t y → bAt b t (tw_bak t y) := fun y h => by
    refine bAt_it (fun i y h => ?_) _ h
    unfold tw_bak1 tw_bakU; repeat' split
    · exact h
    · exact bAt_u (bAt_u (bAt_u (bAt_32 (bAt_u (bAt_u (bAt_u h (by decide) (by decide)) (by decide) (by decide)) (by decide) (by decide)) (by decide)) (by decide) (by decide)) (by decide) (by decide)) (by decide) (by decide)
    · exact h
    · exact h
  have e5 : ∀ y, bAt b t y → bAt b t (tw_she y) := fun y h => by
    refine it_inv (fun s : TS × Int32 => bAt b t s.1) h (pn y) (fun i s _ h => ?_) _ (Nat.le_refl _)
    unfold tw_she1; repeat' split
    · exact h
    · exact bAt_32 h (by decide)
    · exact h
    · exact h
  have e6 : ∀ y, bAt b t y → bAt b t (tw_mix t y) := fun y h => by
    refine bAt_it (fun i y h => ?_) _ h
    have g : ∀ (m b' p f : Int32) (y : TS), bAt b t y → bAt b t (tw_mixD m b' p f y) := fun m b' p f y h => by
      unfold tw_mixD
      exact bAt_u (bAt_u (bAt_32 (bAt_u (bAt_u (bAt_u (bAt_u h (by decide) (by decide)) (by decide) (by decide)) (by decide) (by decide)) (by decide) (by decide)) (by decide)) (by decide) (by decide)) (by decide) (by decide)
    unfold tw_mix1 tw_mixB; repeat' split
    · exact h
    · exact g _ _ _ _ _ h
    · exact g _ _ _ _ _ h
    · exact g _ _ _ _ _ (h.k rfl rfl)
    · exact h
  have e7 : ∀ y, bAt b t y → bAt b t (tw_gro y) := fun y h => by
    refine bAt_it (fun i y h => ?_) _ h
    have g1 : bAt b t (tw_gr1 (nI i) y) := by
      unfold tw_gr1; split
      · exact bAt_u h (by decide) (by decide)
      · exact h
    unfold tw_gro1 tw_gr2; split
    · exact bAt_u (bAt_u g1 (by decide) (by decide)) (by decide) (by decide)
    · exact g1
  have e8 : ∀ y, bAt b t y → bAt b t (tw_hea y) := fun y h => by
    refine bAt_it (fun i y h => ?_) _ h
    have g1 : bAt b t (tw_he1 (nI i) y) := by
      unfold tw_he1; split
      · exact h
      · exact bAt_u h (by decide) (by decide)
    have g5 : ∀ (d s b' : Int32) (y : TS), bAt b t y → bAt b t (tw_he5 d s b' y) := fun d s b' y h => (bAt_u h (by decide) (by decide) : bAt b t (tU y 50 d (tA y 50 d + s))).k rfl rfl
    unfold tw_hea1 tw_he2 tw_he3 tw_he4; repeat' split
    all_goals first | exact g1 | exact g5 _ _ _ _ g1
  unfold tw_min
  exact e8 _ (e7 _ (e6 _ (e5 _ (e4 _ (e3 _ (e2 _ (e1 _ h)))))))
theorem R_done {S : Sh} {P : Pl} {nw b : Nat} {x : DS} {y : TS} (h : R S P nw 0 x y) (hb : b < P.nb) : dy_state S P (it (dy_ut1 S P (nI b)) (dy_utN S P b) x) (nI b) = 1 ↔ tw_state (it (tw_unt1 (nI b)) 1440 y) (nI b) = 1 := by
  have h20 := h.nb
  have cb : (nI b).toNatClampNeg = b := nIc (by omega)
  obtain ⟨p, s, v, dg, mx, pr, wi, bk, ht, g0, rg, e1, e2, e3, e4, e5, -⟩ := h.1.b hb
  have cv : (nI v).toNatClampNeg = v := nIc (by omega)
  obtain ⟨c6, k1, k2⟩ := h.1.2.1.2.2.2.2.2.2.2.2.1
  obtain ⟨m, m1, m2⟩ := h.1.2.1.2.2.2.2.2.1 v g0.2.2.2.1
  have hN : dy_utN S P b = m + 1 - c6 := by
    unfold dy_utN
    rw [e1, k2]
    show (S.wf (nI v).toNatClampNeg).toNatClampNeg + 1 - (nI c6).toNatClampNeg = _
    rw [cv, m2, nIc (by omega), nIc (by omega)]
  rw [hN]
  have hN2 : m + 1 - c6 ≤ 1440 := by omega
  have hRN := R_ut h hb _ hN2
  have hR4 := R_ut h hb 1440 (Nat.le_refl _)
  rw [R_state hRN hb]
  by_cases c : 5 ≤ (it (tw_unt1 (nI b)) (m + 1 - c6) y).2.2.1 32 b
  · rw [it_stuck (F := tw_unt1 (nI b)) hN2 (fun j => if_pos (show 5 ≤ tA (it (tw_unt1 (nI b)) (m + 1 - c6) y) 32 (nI b) by simp only [tA, cb]; exact c))]
  · have n5 : ¬ (it (tw_unt1 (nI b)) (m + 1 - c6) y).2.2.1 32 b = 5 := fun q => c (by rw [q]; decide)
    have n6 : ¬ (it (tw_unt1 (nI b)) (m + 1 - c6) y).2.2.1 32 b = 6 := fun q => c (by rw [q]; decide)
    have l : ¬ tw_state (it (tw_unt1 (nI b)) (m + 1 - c6) y) (nI b) = 1 := by
      unfold tw_state
      simp only [tA, cb]
      rw [if_neg n6, if_neg n5]; decide
    refine ⟨fun q => absurd q l, fun q => absurd q ?_⟩
    have key : ∀ k, m + 1 - c6 + k ≤ 1440 → (it (tw_unt1 (nI b)) (m + 1 - c6 + k) y).2.2.1 32 b = 5 → ∃ t, m + 1 - c6 ≤ t ∧ t < 1440 ∧ (it (tw_unt1 (nI b)) (m + 1 - c6 + k) y).2.2.1 39 b = nI t := by
      intro k
      induction k with
      | zero => intro _ q; exact absurd q n5
      | succ k ih =>
        intro hk q
        rw [← Nat.add_assoc, it] at q ⊢
        have ih := ih (by omega)
        generalize it (tw_unt1 (nI b)) (m + 1 - c6 + k) y = z at ih q ⊢
        unfold tw_unt1 at q ⊢
        simp only [tA, cb] at q ⊢
        by_cases c2 : 5 ≤ z.2.2.1 32 b
        · rw [if_pos c2] at q ⊢; exact ih q
        · rw [if_neg c2] at q ⊢
          have hz : bAt b (nI (m + 1 - c6 + k)) z := fun q => absurd (by rw [q]; decide) c2
          exact ⟨m + 1 - c6 + k, by omega, by omega, bAt_min hz q⟩
    have key := key (1440 - (m + 1 - c6)) (by omega)
    rw [show m + 1 - c6 + (1440 - (m + 1 - c6)) = 1440 by omega] at key
    generalize it (tw_unt1 (nI b)) 1440 y = z at key hR4 ⊢
    obtain ⟨p', s', v', dg', mx', pr', wi', bk', ht', g0', rg', f1, f2, f3, f4, f5, -⟩ := hR4.1.b hb
    have ev : nI v' = nI v := by
      have := f1.symm.trans e1
      simp only [Prod.mk.injEq] at this
      exact this.2.2
    have k3 : tG z 6 = nI c6 := (hR4.1.g (i := 6) (by decide)).trans k2
    have hw := hR4.1.2.2.1.2 v g0.2.2.2.1
    unfold tw_state
    rw [f5, ev, k3]
    simp only [tA, cb, cv, hw, m2]
    by_cases d6 : z.2.2.1 32 b = 6
    · rw [if_pos d6]; decide
    · rw [if_neg d6]
      by_cases d5 : z.2.2.1 32 b = 5
      · obtain ⟨t, t1, t2, t3⟩ := key d5
        rw [if_pos d5, t3, nI_add, if_pos (nI_lt (by omega) (by omega))]; decide
      · rw [if_neg d5]; decide
/-- worth: more is better -/
theorem R_worth {a l d : Nat} {u v w : Nat} (ha : a ≤ 20) (hl : l ≤ 20) (hd : d < 1440) (hu : u ≤ 20) (hv : v ≤ 20) (hw : w < 1440) : 10000 * nI u - 1000000 * nI v - nI w < 10000 * nI a - 1000000 * nI l - nI d ↔ (if ¬ l = v then l < v else if ¬ a = u then u < a else d < w) := by
  have e : ∀ a l d : Nat, a ≤ 20 → l ≤ 20 → d < 1440 → (10000 * nI a - 1000000 * nI l - nI d).toInt = 10000 * (a : Int) - 1000000 * l - d := by
    intro a l d ha hl hd
    have t1 : (nI a).toInt = a := nIt (by omega)
    have t2 : (nI l).toInt = l := nIt (by omega)
    have t3 : (nI d).toInt = d := nIt (by omega)
    have z1 : ((10000 : Int32)).toInt = 10000 := by decide
    have z2 : ((1000000 : Int32)).toInt = 1000000 := by decide
    have m1 : (10000 * nI a).toInt = 10000 * a := by
      rw [Int32.toInt_mul, t1, z1]; exact Int.bmod_eq_of_le (by omega) (by omega)
    have m2 : (1000000 * nI l).toInt = 1000000 * l := by
      rw [Int32.toInt_mul, t2, z2]; exact Int.bmod_eq_of_le (by omega) (by omega)
    have m3 : (10000 * nI a - 1000000 * nI l).toInt = 10000 * (a : Int) - 1000000 * l := by
      rw [Int32.toInt_sub, m1, m2]; exact Int.bmod_eq_of_le (by omega) (by omega)
    rw [Int32.toInt_sub, m3, t3]; exact Int.bmod_eq_of_le (by omega) (by omega)
  rw [Int32.lt_iff_toInt_lt, e _ _ _ ha hl hd, e _ _ _ hu hv hw]
  by_cases c1 : l = v
  · rw [if_neg (by omega)]
    by_cases c2 : a = u
    · rw [if_neg (by omega)]; omega
    · rw [if_pos c2]; omega
  · rw [if_pos c1]; omega
