/-! the twin's pure words -/
set_option maxRecDepth 100000
abbrev tA (x : TS) (j : Nat) (i : Int32) : Int32 := x.2.2.1 j i.toNatClampNeg
/-- get(i), batch(b, i) -/
abbrev tG (x : TS) (i : Int32) : Int32 := tA x 1 (x.1 2 + i)
abbrev tB (x : TS) (b i : Int32) : Int32 := tA x 1 (x.1 2 + 9 + 3 * b + i)
def tK (x : TS) : Int32 × (Nat → Int32) := (x.1 2, x.2.2.1 1)
theorem tK_u {x : TS} {j : Nat} {i v : Int32} (h : j ≠ 1) : tK (tU x j i v) = tK x := by
  show (x.1 2, va_up x.2.2.1 j _ 1) = (x.1 2, x.2.2.1 1)
  rw [show va_up x.2.2.1 j (upd (x.2.2.1 j) i.toNatClampNeg v) 1 = x.2.2.1 1 from if_neg (Ne.symm h)]
theorem tK_sI {x : TS} {j : Nat} {v : Int32} (h : j ≠ 2) : tK (sI x j v) = tK x := by
  show (upd x.1 j v 2, x.2.2.1 1) = (x.1 2, x.2.2.1 1)
  rw [pk_un (Ne.symm h)]
theorem tA_u {x : TS} {j j2 : Nat} {i v k : Int32} (h : j2 ≠ j) : tA (tU x j i v) j2 k = tA x j2 k := by
  show va_up x.2.2.1 j _ j2 _ = _
  rw [show va_up x.2.2.1 j (upd (x.2.2.1 j) i.toNatClampNeg v) j2 = x.2.2.1 j2 from if_neg h]
def pn (x : TS) : Nat := (tG x 8).toNatClampNeg
def pm (x : TS) : Nat := (tG x 0).toNatClampNeg
def pd (x : TS) : Nat := (tG x 1).toNatClampNeg
def ps (x : TS) : Nat := (tG x 4).toNatClampNeg
def pr (x : TS) : Nat := (tG x 5).toNatClampNeg
/-- the plan that is looked at is a good one -/
def tP (x : TS) : Prop := (x.1 2 = 0 ∨ x.1 2 = 70) ∧ (pn x ≤ 20 ∧ tG x 8 = nI (pn x)) ∧ (1 ≤ pm x ∧ pm x ≤ 3 ∧ tG x 0 = nI (pm x)) ∧ (1 ≤ pd x ∧ pd x ≤ 4 ∧ tG x 1 = nI (pd x)) ∧ (2 ≤ ps x ∧ ps x ≤ 8 ∧ tG x 4 = nI (ps x)) ∧ (1 ≤ pr x ∧ pr x ≤ 20 ∧ tG x 5 = nI (pr x)) ∧ ∀ b : Nat, b < pn x → vp_in (tB x (nI b) 0) 8 ∧ vp_in (tB x (nI b) 2) 6
theorem tK_1 {x y : TS} (h : tK y = tK x) : y.1 2 = x.1 2 := congrArg Prod.fst h
theorem tK_2 {x y : TS} (h : tK y = tK x) : y.2.2.1 1 = x.2.2.1 1 := congrArg Prod.snd h
theorem tG_k {x y : TS} (h : tK y = tK x) (i : Int32) : tG y i = tG x i := by
  show y.2.2.1 1 _ = x.2.2.1 1 _
  rw [tK_1 h, tK_2 h]
theorem tB_k {x y : TS} (h : tK y = tK x) (b i : Int32) : tB y b i = tB x b i := by
  show y.2.2.1 1 _ = x.2.2.1 1 _
  rw [tK_1 h, tK_2 h]
theorem pn_k {x y : TS} (h : tK y = tK x) : pn y = pn x := by unfold pn; rw [tG_k h]
theorem pm_k {x y : TS} (h : tK y = tK x) : pm y = pm x := by unfold pm; rw [tG_k h]
theorem pd_k {x y : TS} (h : tK y = tK x) : pd y = pd x := by unfold pd; rw [tG_k h]
theorem ps_k {x y : TS} (h : tK y = tK x) : ps y = ps x := by unfold ps; rw [tG_k h]
theorem pr_k {x y : TS} (h : tK y = tK x) : pr y = pr x := by unfold pr; rw [tG_k h]
theorem tP.k {x y : TS} (hP : tP x) (h : tK y = tK x) : tP y := by
  unfold tP
  rw [pn_k h, pm_k h, pd_k h, ps_k h, pr_k h, tG_k h, tG_k h, tG_k h, tG_k h, tG_k h, tK_1 h]
  refine ⟨hP.1, hP.2.1, hP.2.2.1, hP.2.2.2.1, hP.2.2.2.2.1, hP.2.2.2.2.2.1, fun b hb => ?_⟩
  rw [tB_k h, tB_k h]
  exact hP.2.2.2.2.2.2 b hb
theorem vin {i : Int32} {n : Nat} (h : ¬ (i < 0 ∨ n ≤ i.toNatClampNeg)) : vp_in i n := h
theorem vmono {i : Int32} {n m : Nat} (h : vp_in i n) (hm : n ≤ m) : vp_in i m := fun z => h (z.imp_right (fun q => Nat.le_trans hm q))
theorem vnI {i n : Nat} (h : i < n) (hn : n ≤ 100000) : vp_in (nI i) n := vp_in_nI h (by omega)
theorem gidx {x : TS} (hP : tP x) {i : Int32} (hi : vp_in i 9) : vp_in (x.1 2 + i) 840 := by
  obtain ⟨j, hj, rfl⟩ := vp_in_of hi (by decide)
  rcases hP.1 with h | h
  · rw [h, show (0 : Int32) = nI 0 from rfl, nI_add]; exact vp_in_nI (by omega) (by decide)
  · rw [h, show (70 : Int32) = nI 70 from rfl, nI_add]; exact vp_in_nI (by omega) (by decide)
theorem gidx0 {a i : Int32} (ha : a = 0 ∨ a = 70) (hi : vp_in i 9) : vp_in (a + i) 840 := by
  obtain ⟨j, hj, rfl⟩ := vp_in_of hi (by decide)
  rcases ha with h | h
  · rw [h, show (0 : Int32) = nI 0 from rfl, nI_add]; exact vp_in_nI (by omega) (by decide)
  · rw [h, show (70 : Int32) = nI 70 from rfl, nI_add]; exact vp_in_nI (by omega) (by decide)
theorem bidx0 {a b i : Int32} (ha : a = 0 ∨ a = 70) (hb : vp_in b 20) (hi : vp_in i 3) : vp_in (a + 9 + 3 * b + i) 840 := by
  obtain ⟨j, hj, rfl⟩ := vp_in_of hi (by decide)
  obtain ⟨c, hc, rfl⟩ := vp_in_of hb (by decide)
  rcases ha with h | h
  · rw [h, show (0 : Int32) = nI 0 from rfl, show (9 : Int32) = nI 9 from rfl, show (3 : Int32) = nI 3 from rfl, pk_mul, nI_add, nI_add, nI_add]; exact vp_in_nI (by omega) (by decide)
  · rw [h, show (70 : Int32) = nI 70 from rfl, show (9 : Int32) = nI 9 from rfl, show (3 : Int32) = nI 3 from rfl, pk_mul, nI_add, nI_add, nI_add]; exact vp_in_nI (by omega) (by decide)
theorem b20 {x : TS} (hP : tP x) {b : Int32} (hb : vp_in b (pn x)) : vp_in b 20 := vmono hb hP.2.1.1
theorem bidx {x : TS} (hP : tP x) {b i : Int32} (hb : vp_in b (pn x)) (hi : vp_in i 3) : vp_in (x.1 2 + 9 + 3 * b + i) 840 := bidx0 hP.1 (b20 hP hb) hi
theorem bprod {x : TS} (hP : tP x) {b : Int32} (hb : vp_in b (pn x)) : vp_in (tB x b 0) 8 := by
  obtain ⟨j, hj, rfl⟩ := vp_in_of hb (by have := hP.2.1.1; omega)
  exact (hP.2.2.2.2.2.2 j hj).1
theorem bwave {x : TS} (hP : tP x) {b : Int32} (hb : vp_in b (pn x)) : vp_in (tB x b 2) 6 := by
  obtain ⟨j, hj, rfl⟩ := vp_in_of hb (by have := hP.2.1.1; omega)
  exact (hP.2.2.2.2.2.2 j hj).2
theorem nI_n0 {n : Nat} (h0 : 1 ≤ n) (h : n ≤ 100000) : ¬ nI n = 0 := nI_ne0 h0 (by omega)
theorem pslow {x : TS} (hP : tP x) : ¬ tG x 4 = 0 := by
  obtain ⟨a, b, c⟩ := hP.2.2.2.2.1
  rw [c]; exact nI_n0 (by omega) (by omega)
theorem prate {x : TS} (hP : tP x) : ¬ tG x 5 = 0 := by
  obtain ⟨a, b, c⟩ := hP.2.2.2.2.2.1
  rw [c]; exact nI_n0 (by omega) (by omega)
/-- iteration from 0 -/
def it {σ : Type} (f : Nat → σ → σ) : Nat → σ → σ
  | 0, x => x
  | n + 1, x => f n (it f n x)
theorem it_keep {σ κ : Type} {f : Nat → σ → σ} (K : σ → κ) (h : ∀ i y, K (f i y) = K y) (n : Nat) (x : σ) : K (it f n x) = K x := by
  induction n with
  | zero => rfl
  | succ n ih => exact (h n _).trans ih
theorem it_inv {σ : Type} {f : Nat → σ → σ} (I : σ → Prop) {x : σ} (h0 : I x) (N : Nat) (h : ∀ i y, i < N → I y → I (f i y)) : ∀ n, n ≤ N → I (it f n x) := by
  intro n
  induction n with
  | zero => intro _; exact h0
  | succ n ih => intro hn; exact h n _ hn (ih (by omega))
/-- a loop, from its end back to its start -/
theorem loop_up (N : Nat) (P : Nat → Prop) (h0 : P N) (h1 : ∀ i, i < N → P (i + 1) → P i) : ∀ i, i ≤ N → P i := by
  have key : ∀ k i, i + k = N → P i := by
    intro k
    induction k with
    | zero => intro i hi; rw [show i = N by omega]; exact h0
    | succ k ih => intro i hi; exact h1 i (by omega) (ih (i + 1) (by omega))
  intro i hi
  exact key (N - i) i (by omega)
theorem tW.to {Γ : Gm} {G : Nat → Nat} {wB : Wd} {x y : TS} {w : Wd} (h : tW Γ G wB x w) (e : y = x) : tW Γ G wB y w := e ▸ h
theorem ge_x {n : Int32} {N i : Nat} (e : n = nI N) (h : i = N) : n ≤ nI i := by rw [e, h]; exact Int32.le_refl _
theorem ge_s {n : Int32} {N i : Nat} (e : n = nI N) (h : i < N) (hN : N ≤ 100000) : ¬ n ≤ nI i := by rw [e]; exact nI_ge h (by omega)
/-- how many of the first n -/
def ct (p : Nat → Prop) [DecidablePred p] : Nat → Int32
  | 0 => 0
  | n + 1 => if p n then ct p n + 1 else ct p n
/-- the first of the first n; none: -1 -/
def ff (p : Nat → Prop) [DecidablePred p] : Nat → Int32
  | 0 => -1
  | n + 1 => if ff p n = -1 then (if p n then nI n else -1) else ff p n
theorem ff_none {p : Nat → Prop} [DecidablePred p] {n : Nat} (h : ∀ j, j < n → ¬ p j) : ff p n = -1 := by
  induction n with
  | zero => rfl
  | succ n ih => rw [ff, if_pos (ih (fun j hj => h j (by omega))), if_neg (h n (by omega))]
theorem nI_m1 {n : Nat} (h : n ≤ 100000) : ¬ nI n = -1 := by
  intro e
  have h1 := congrArg Int32.toInt e
  rw [nI_toInt (by omega)] at h1
  have h2 : ((-1 : Int32)).toInt = -1 := by decide
  omega
theorem ff_some {p : Nat → Prop} [DecidablePred p] {n i : Nat} (hn : n ≤ 100000) (hi : i < n) (h : ∀ j, j < i → ¬ p j) (hp : p i) : ff p n = nI i := by
  induction n with
  | zero => omega
  | succ n ih =>
    rw [ff]
    by_cases e : i = n
    · subst e
      rw [if_pos (ff_none h), if_pos hp]
    · rw [ih (by omega) (by omega), if_neg (nI_m1 (by omega))]
theorem i32_ne {x k : Int32} {z : Int} (h : ¬ x = k) (e : k.toInt = z) : x.toInt ≠ z := fun q => h (Int32.toInt_inj.mp (q.trans e.symm))
theorem ex_s {p : Nat → Prop} {n i : Nat} (hi : i < n) (h : p i) : ∃ d, d < n ∧ p d := ⟨i, hi, h⟩
