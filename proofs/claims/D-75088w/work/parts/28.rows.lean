/-! rows of the plan: a row is a function of 70 places -/
noncomputable section
set_option maxRecDepth 100000
/-- row number k holds r -/
def rIs (x : TS) (k : Nat) (r : Nat → Int32) : Prop := ∀ i, i < 70 → x.2.2.1 1 (70 * k + i) = r i
def rn (r : Nat → Int32) : Nat := (r 8).toNatClampNeg
/-- a good row -/
def rOK (r : Nat → Int32) : Prop := (rn r ≤ 20 ∧ r 8 = nI (rn r)) ∧ (1 ≤ (r 0).toNatClampNeg ∧ (r 0).toNatClampNeg ≤ 3 ∧ r 0 = nI (r 0).toNatClampNeg) ∧ (1 ≤ (r 1).toNatClampNeg ∧ (r 1).toNatClampNeg ≤ 4 ∧ r 1 = nI (r 1).toNatClampNeg) ∧ (2 ≤ (r 4).toNatClampNeg ∧ (r 4).toNatClampNeg ≤ 8 ∧ r 4 = nI (r 4).toNatClampNeg) ∧ (1 ≤ (r 5).toNatClampNeg ∧ (r 5).toNatClampNeg ≤ 20 ∧ r 5 = nI (r 5).toNatClampNeg) ∧ ∀ b : Nat, b < rn r → vp_in (r (9 + 3 * b)) 8 ∧ vp_in (r (9 + 3 * b + 2)) 6
theorem rIs.keep {x y : TS} {k : Nat} {r : Nat → Int32} (h : rIs x k r) (e : y.2.2.1 1 = x.2.2.1 1) : rIs y k r := fun i hi => by rw [e]; exact h i hi
theorem rIs.k {x y : TS} {k : Nat} {r : Nat → Int32} (h : rIs x k r) (e : tK y = tK x) : rIs y k r := h.keep (tK_2 e)
theorem tA_nI {x : TS} {j k : Nat} {i : Int32} (h : i = nI k) (hk : k ≤ 100000) : tA x j i = x.2.2.1 j k := by
  show x.2.2.1 j i.toNatClampNeg = _
  rw [clamp_nI h hk]
theorem tG_r {x : TS} {k i : Nat} {r : Nat → Int32} (h : rIs x k r) (ha : x.1 2 = nI (70 * k)) (hk : k ≤ 11) (hi : i < 70) : tG x (nI i) = r i := by
  rw [← h i hi]
  exact tA_nI (by rw [ha, nI_add]) (by omega)
theorem tB_r {x : TS} {k b i : Nat} {r : Nat → Int32} (h : rIs x k r) (ha : x.1 2 = nI (70 * k)) (hk : k ≤ 11) (hb : b < 20) (hi : i < 3) : tB x (nI b) (nI i) = r (9 + 3 * b + i) := by
  rw [← h (9 + 3 * b + i) (by omega)]
  refine tA_nI ?_ (by omega)
  rw [ha, show (9 : Int32) = nI 9 from rfl, show (3 : Int32) = nI 3 from rfl, pk_mul, nI_add, nI_add, nI_add]
  congr 1; omega
theorem tP_of {x : TS} {k : Nat} {r : Nat → Int32} (h : rIs x k r) (ha : x.1 2 = nI (70 * k)) (hk : k ≤ 1) (hr : rOK r) : tP x := by
  have g : ∀ i : Nat, i < 70 → tG x (nI i) = r i := fun i hi => tG_r h ha (by omega) hi
  have e8 : tG x 8 = r 8 := g 8 (by decide)
  have e0 : tG x 0 = r 0 := g 0 (by decide)
  have e1 : tG x 1 = r 1 := g 1 (by decide)
  have e4 : tG x 4 = r 4 := g 4 (by decide)
  have e5 : tG x 5 = r 5 := g 5 (by decide)
  have f8 : pn x = rn r := by unfold pn rn; rw [e8]
  have f0 : pm x = (r 0).toNatClampNeg := by unfold pm; rw [e0]
  have f1 : pd x = (r 1).toNatClampNeg := by unfold pd; rw [e1]
  have f4 : ps x = (r 4).toNatClampNeg := by unfold ps; rw [e4]
  have f5 : pr x = (r 5).toNatClampNeg := by unfold pr; rw [e5]
  unfold tP
  rw [f8, f0, f1, f4, f5, e8, e0, e1, e4, e5]
  refine ⟨?_, hr.1, hr.2.1, hr.2.2.1, hr.2.2.2.1, hr.2.2.2.2.1, fun b hb => ?_⟩
  · rcases (show k = 0 ∨ k = 1 by omega) with rfl | rfl
    · exact Or.inl ha
    · exact Or.inr ha
  · have h20 := hr.1.1
    have := hr.2.2.2.2.2 b hb
    have b0 : tB x (nI b) 0 = r (9 + 3 * b) := tB_r (i := 0) h ha (by omega) (by omega) (by decide)
    have b2 : tB x (nI b) 2 = r (9 + 3 * b + 2) := tB_r (i := 2) h ha (by omega) (by omega) (by decide)
    rw [b0, b2]
    exact this
theorem tU_1 {x : TS} {j : Nat} {v : Int32} (hj : j ≤ 100000) (k : Nat) : (tU x 1 (nI j) v).2.2.1 1 k = if k = j then v else x.2.2.1 1 k := by
  rw [tU_at, nI_clamp (by omega)]
/-- one place of a row is set -/
theorem rIs.set {x : TS} {k i : Nat} {r : Nat → Int32} {v j : Int32} (h : rIs x k r) (hk : k ≤ 11) (hi : i < 70) (hj : j = nI (70 * k + i)) : rIs (tU x 1 j v) k (upd r i v) := by
  subst hj
  intro a ha
  rw [tU_1 (by omega)]
  unfold upd
  by_cases e : a = i
  · rw [if_pos (by omega), if_pos e]
  · rw [if_neg (by omega), if_neg e]; exact h a ha
theorem rIs.oth {x : TS} {k k2 i : Nat} {r : Nat → Int32} {v j : Int32} (h : rIs x k r) (hk : k2 ≤ 11) (hi : i < 70) (hne : k ≠ k2) (hj : j = nI (70 * k2 + i)) : rIs (tU x 1 j v) k r := by
  subst hj
  intro a ha
  rw [tU_1 (by omega), if_neg (by omega)]
  exact h a ha
theorem cr1_row {x : TS} {f t : Nat} (hf : f ≤ 11) (ht : t ≤ 11) (hne : f ≠ t) : ∀ n, n ≤ 70 → (∀ k i, k ≠ t → i < 70 → (it (tw_cr1 (nI f) (nI t)) n x).2.2.1 1 (70 * k + i) = x.2.2.1 1 (70 * k + i)) ∧ (∀ i, i < n → (it (tw_cr1 (nI f) (nI t)) n x).2.2.1 1 (70 * t + i) = x.2.2.1 1 (70 * f + i)) := by
  intro n
  induction n with
  | zero => intro _; exact ⟨fun _ _ _ _ => rfl, fun i hi => by omega⟩
  | succ n ih =>
    intro hn
    obtain ⟨h1, h2⟩ := ih (by omega)
    have e : it (tw_cr1 (nI f) (nI t)) (n + 1) x = tU (it (tw_cr1 (nI f) (nI t)) n x) 1 (nI (70 * t + n)) ((it (tw_cr1 (nI f) (nI t)) n x).2.2.1 1 (70 * f + n)) := by
      show tU _ 1 (70 * nI t + nI n) (tA _ 1 (70 * nI f + nI n)) = _
      rw [tA_nI (k := 70 * f + n) (by rw [show (70 : Int32) = nI 70 from rfl, pk_mul, nI_add]) (by omega), show (70 : Int32) = nI 70 from rfl, pk_mul, nI_add]
    rw [e]
    generalize it (tw_cr1 (nI f) (nI t)) n x = y at h1 h2
    refine ⟨fun k i hk hi => ?_, fun i hi => ?_⟩
    · rw [tU_1 (by omega), if_neg (by omega)]; exact h1 k i hk hi
    · rw [tU_1 (by omega)]
      by_cases c : i = n
      · subst c
        rw [if_pos rfl]; exact h1 f i hne (by omega)
      · rw [if_neg (by omega)]; exact h2 i (by omega)
/-- a row is copied -/
theorem rIs.cr {x : TS} {f t : Nat} {r : Nat → Int32} (h : rIs x f r) (hf : f ≤ 11) (ht : t ≤ 11) (hne : f ≠ t) : rIs (tw_cr (nI f) (nI t) x) t r := by
  intro i hi
  rw [tw_cr_eq, (cr1_row hf ht hne 70 (Nat.le_refl _)).2 i hi]
  exact h i hi
theorem rIs.cro {x : TS} {f t k : Nat} {r : Nat → Int32} (h : rIs x k r) (hf : f ≤ 11) (ht : t ≤ 11) (hne : f ≠ t) (hk : k ≠ t) : rIs (tw_cr (nI f) (nI t) x) k r := by
  intro i hi
  rw [tw_cr_eq, (cr1_row hf ht hne 70 (Nat.le_refl _)).1 k i hk hi]
  exact h i hi
/-- two batches of a row change places -/
def rswn (r : Nat → Int32) (a b n j : Nat) : Int32 := if 9 + 3 * a ≤ j ∧ j < 9 + 3 * a + n then r (j + 3 * b - 3 * a) else if 9 + 3 * b ≤ j ∧ j < 9 + 3 * b + n then r (j + 3 * a - 3 * b) else r j
def rswap (r : Nat → Int32) (a b : Nat) : Nat → Int32 := rswn r a b 3
def tw_ex1 (a b : Int32) (k : Nat) (x : TS) : TS := (fun y => tU y 1 (y.1 2 + 9 + 3 * b + nI k) (tB x a (nI k))) (tU x 1 (x.1 2 + 9 + 3 * a + nI k) (tB x b (nI k)))
theorem ex1_row {x : TS} {a b k : Nat} {r : Nat → Int32} (h : rIs x k r) (ha : x.1 2 = nI (70 * k)) (hk : k ≤ 11) (h1 : a < 20) (h2 : b < 20) (hne : a ≠ b) : ∀ n, n ≤ 3 → (it (tw_ex1 (nI a) (nI b)) n x).1 = x.1 ∧ rIs (it (tw_ex1 (nI a) (nI b)) n x) k (rswn r a b n) := by
  intro n
  induction n with
  | zero =>
    intro _
    refine ⟨rfl, fun i hi => ?_⟩
    show x.2.2.1 1 (70 * k + i) = rswn r a b 0 i
    rw [rswn, if_neg (by omega), if_neg (by omega)]
    exact h i hi
  | succ n ih =>
    intro hn
    obtain ⟨e1, hr⟩ := ih (by omega)
    have e : it (tw_ex1 (nI a) (nI b)) (n + 1) x = tw_ex1 (nI a) (nI b) n (it (tw_ex1 (nI a) (nI b)) n x) := rfl
    rw [e]
    generalize it (tw_ex1 (nI a) (nI b)) n x = y at e1 hr
    have hy : y.1 2 = nI (70 * k) := by rw [e1]; exact ha
    have va : tB y (nI a) (nI n) = r (9 + 3 * a + n) := by
      rw [tB_r hr hy hk h1 (by omega), rswn, if_neg (by omega), if_neg (by omega)]
    have vb : tB y (nI b) (nI n) = r (9 + 3 * b + n) := by
      rw [tB_r hr hy hk h2 (by omega), rswn, if_neg (by omega), if_neg (by omega)]
    have ia : y.1 2 + 9 + 3 * nI a + nI n = nI (70 * k + (9 + 3 * a + n)) := by
      rw [hy, show (9 : Int32) = nI 9 from rfl, show (3 : Int32) = nI 3 from rfl, pk_mul, nI_add, nI_add, nI_add]; congr 1; omega
    have ib : y.1 2 + 9 + 3 * nI b + nI n = nI (70 * k + (9 + 3 * b + n)) := by
      rw [hy, show (9 : Int32) = nI 9 from rfl, show (3 : Int32) = nI 3 from rfl, pk_mul, nI_add, nI_add, nI_add]; congr 1; omega
    refine ⟨?_, ?_⟩
    · show y.1 = x.1; exact e1
    · show rIs (tU (tU y 1 (y.1 2 + 9 + 3 * nI a + nI n) (tB y (nI b) (nI n))) 1 (y.1 2 + 9 + 3 * nI b + nI n) (tB y (nI a) (nI n))) k _
      rw [va, vb]
      have q := (hr.set (i := 9 + 3 * a + n) (v := r (9 + 3 * b + n)) hk (by omega) ia).set (i := 9 + 3 * b + n) (v := r (9 + 3 * a + n)) hk (by omega) ib
      intro i hi
      rw [q i hi]
      unfold upd rswn
      by_cases c1 : i = 9 + 3 * b + n
      · subst c1
        rw [if_pos rfl, if_neg (by omega), if_pos (by omega)]
        congr 1; omega
      · rw [if_neg c1]
        by_cases c2 : i = 9 + 3 * a + n
        · subst c2
          rw [if_pos rfl, if_pos (by omega)]
          congr 1; omega
        · rw [if_neg c2]
          by_cases c3 : 9 + 3 * a ≤ i ∧ i < 9 + 3 * a + n
          · rw [if_pos c3, if_pos (by omega)]
          · rw [if_neg c3, if_neg (show ¬ (9 + 3 * a ≤ i ∧ i < 9 + 3 * a + (n + 1)) by omega)]
            by_cases c4 : 9 + 3 * b ≤ i ∧ i < 9 + 3 * b + n
            · rw [if_pos c4, if_pos (show 9 + 3 * b ≤ i ∧ i < 9 + 3 * b + (n + 1) by omega)]
            · rw [if_neg c4, if_neg (show ¬ (9 + 3 * b ≤ i ∧ i < 9 + 3 * b + (n + 1)) by omega)]
def tw_ex_d (a b : Int32) (x : TS) : TS := it (tw_ex1 a b) 3 x
theorem tw_ex_ex : ∃ g : Int32 → Int32 → TS → TS, ∀ a b x, g a b x = tw_ex_d a b x := ⟨tw_ex_d, fun _ _ _ => rfl⟩
noncomputable def tw_ex : Int32 → Int32 → TS → TS := Classical.choose tw_ex_ex
theorem tw_ex_eq (a b : Int32) (x : TS) : tw_ex a b x = it (tw_ex1 a b) 3 x := Classical.choose_spec tw_ex_ex a b x
theorem rIs.ex {x : TS} {a b k : Nat} {r : Nat → Int32} (h : rIs x k r) (ha : x.1 2 = nI (70 * k)) (hk : k ≤ 11) (h1 : a < 20) (h2 : b < 20) (hne : a ≠ b) : rIs (tw_ex (nI a) (nI b) x) k (rswap r a b) := by
  rw [tw_ex_eq]
  exact (ex1_row h ha hk h1 h2 hne 3 (Nat.le_refl _)).2
theorem ex_1 {x : TS} {a b : Int32} : (tw_ex a b x).1 = x.1 := by
  rw [tw_ex_eq]
  exact it_keep (f := tw_ex1 a b) (fun y : TS => y.1) (fun _ _ => rfl) 3 x
theorem rIs.exo {x : TS} {a b k k2 : Nat} {r : Nat → Int32} (h : rIs x k2 r) (ha : x.1 2 = nI (70 * k)) (hk : k ≤ 11) (h1 : a < 20) (h2 : b < 20) (hne : k2 ≠ k) : rIs (tw_ex (nI a) (nI b) x) k2 r := by
  rw [tw_ex_eq]
  refine (it_inv (fun y : TS => y.1 = x.1 ∧ rIs y k2 r) ⟨rfl, h⟩ 3 (fun n y hn q => ?_) 3 (Nat.le_refl _)).2
  have hy : y.1 2 = nI (70 * k) := by rw [q.1]; exact ha
  refine ⟨q.1, ?_⟩
  refine (q.2.oth (k2 := k) (i := 9 + 3 * a + n) hk (by omega) hne ?_).oth (k2 := k) (i := 9 + 3 * b + n) hk (by omega) hne ?_
  · rw [hy, show (9 : Int32) = nI 9 from rfl, show (3 : Int32) = nI 3 from rfl, pk_mul, nI_add, nI_add, nI_add]; congr 1; omega
  · show y.1 2 + 9 + 3 * nI b + nI n = _
    rw [hy, show (9 : Int32) = nI 9 from rfl, show (3 : Int32) = nI 3 from rfl, pk_mul, nI_add, nI_add, nI_add]; congr 1; omega
theorem rswap_s {r : Nat → Int32} {a b j : Nat} (h : j < 9) : rswap r a b j = r j := by
  unfold rswap rswn
  rw [if_neg (by omega), if_neg (by omega)]
theorem rn_swap {r : Nat → Int32} {a b : Nat} : rn (rswap r a b) = rn r := by
  unfold rn; rw [rswap_s (by decide)]
theorem rswap_b {r : Nat → Int32} {a b c i : Nat} (hi : i < 3) : rswap r a b (9 + 3 * c + i) = r (9 + 3 * (if c = a then b else if c = b then a else c) + i) := by
  unfold rswap rswn
  by_cases h : c = a
  · subst h
    rw [if_pos (by omega), if_pos rfl]; congr 1; omega
  · rw [if_neg (by omega), if_neg h]
    by_cases h2 : c = b
    · subst h2
      rw [if_pos (by omega), if_pos rfl]; congr 1; omega
    · rw [if_neg (by omega), if_neg h2]
theorem rOK.swap {r : Nat → Int32} {a b : Nat} (h : rOK r) (ha : a < rn r) (hb : b < rn r) : rOK (rswap r a b) := by
  unfold rOK
  rw [rn_swap, rswap_s (by decide), rswap_s (by decide), rswap_s (by decide), rswap_s (by decide), rswap_s (by decide)]
  refine ⟨h.1, h.2.1, h.2.2.1, h.2.2.2.1, h.2.2.2.2.1, fun c hc => ?_⟩
  have e0 : rswap r a b (9 + 3 * c) = _ := rswap_b (i := 0) (c := c) (by decide)
  rw [e0, rswap_b (by decide)]
  refine h.2.2.2.2.2 _ ?_
  split
  · exact hb
  · split
    · exact ha
    · exact hc
theorem rOK.set {r : Nat → Int32} {i : Nat} {v : Int32} (h : rOK r) (hi : i ≠ 0 ∧ i ≠ 1 ∧ i ≠ 4 ∧ i ≠ 5 ∧ i < 8) : rOK (upd r i v) := by
  unfold rOK rn
  rw [upd_n (by omega), upd_n (by omega), upd_n (by omega), upd_n (by omega), upd_n (by omega)]
  refine ⟨h.1, h.2.1, h.2.2.1, h.2.2.2.1, h.2.2.2.2.1, fun c hc => ?_⟩
  rw [upd_n (by omega), upd_n (by omega)]
  exact h.2.2.2.2.2 c hc
theorem rOK.set1 {r : Nat → Int32} {n : Nat} (h : rOK r) (h1 : 1 ≤ n) (h2 : n ≤ 4) : rOK (upd r 1 (nI n)) := by
  have e : upd r 1 (nI n) 1 = nI n := if_pos rfl
  unfold rOK rn
  rw [e, nI_clamp (show n < 2 ^ 31 by omega), upd_n (by omega), upd_n (by omega), upd_n (by omega), upd_n (by omega)]
  refine ⟨h.1, h.2.1, ⟨h1, h2, rfl⟩, h.2.2.2.1, h.2.2.2.2.1, fun c hc => ?_⟩
  rw [upd_n (by omega), upd_n (by omega)]
  exact h.2.2.2.2.2 c hc
theorem rOK.setb {r : Nat → Int32} {b : Nat} {v : Int32} (h : rOK r) : rOK (upd r (9 + 3 * b + 1) v) := by
  unfold rOK rn
  rw [upd_n (by omega), upd_n (by omega), upd_n (by omega), upd_n (by omega), upd_n (by omega)]
  refine ⟨h.1, h.2.1, h.2.2.1, h.2.2.2.1, h.2.2.2.2.1, fun c hc => ?_⟩
  rw [upd_n (by omega), upd_n (by omega)]
  exact h.2.2.2.2.2 c hc
end
