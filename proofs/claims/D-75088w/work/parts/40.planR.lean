/-! plans in a world -/
set_option maxRecDepth 100000
/-- what the plans of a text share: products, waves; what a plan has for itself -/
abbrev Sh : Type := (Nat) × (Nat) × (Nat) × (Nat) × (Int32) × (Nat → Option Nat) × (Nat → Int32) × (Nat → Nat × Int32 × Int32 × Int32 × Int32 × Int32 × Int32)
abbrev Sh.pr (x : Sh) : Nat := x.1
abbrev Sh.pd (x : Sh) : Nat := x.2.1
abbrev Sh.np (x : Sh) : Nat := x.2.2.1
abbrev Sh.wv (x : Sh) : Nat := x.2.2.2.1
abbrev Sh.pm (x : Sh) : Int32 := x.2.2.2.2.1
abbrev Sh.pf (x : Sh) : Nat → Option Nat := x.2.2.2.2.2.1
abbrev Sh.wf (x : Sh) : Nat → Int32 := x.2.2.2.2.2.2.1
abbrev Sh.px (x : Sh) : Nat → Nat × Int32 × Int32 × Int32 × Int32 × Int32 × Int32 := x.2.2.2.2.2.2.2
abbrev Pl : Type := (Nat) × (Nat) × (Nat) × (Nat) × (Int32) × (Int32) × (Int32) × (Nat → Int32) × (Nat → Option Nat) × (Nat → Int32 × Int32 × Int32)
abbrev Pl.st (x : Pl) : Nat := x.1
abbrev Pl.ba (x : Pl) : Nat := x.2.1
abbrev Pl.bd (x : Pl) : Nat := x.2.2.1
abbrev Pl.nb (x : Pl) : Nat := x.2.2.2.1
abbrev Pl.bm (x : Pl) : Int32 := x.2.2.2.2.1
abbrev Pl.wc (x : Pl) : Int32 := x.2.2.2.2.2.1
abbrev Pl.po (x : Pl) : Int32 := x.2.2.2.2.2.2.1
abbrev Pl.sf (x : Pl) : Nat → Int32 := x.2.2.2.2.2.2.2.1
abbrev Pl.bf (x : Pl) : Nat → Option Nat := x.2.2.2.2.2.2.2.2.1
abbrev Pl.bx (x : Pl) : Nat → Int32 × Int32 × Int32 := x.2.2.2.2.2.2.2.2.2
abbrev pcell (S : Sh) (P : Pl) : va_E := .inr (2, [.ref S.pr, .ref S.wv, .ref P.st, .ref P.ba, .int P.wc, .int P.po])
abbrev bcell (b : Int32 × Int32 × Int32) : va_E := .inr (10, [.int b.1, .int b.2.1, .int b.2.2])
abbrev xcell (x : Nat × Int32 × Int32 × Int32 × Int32 × Int32 × Int32) : va_E := .inr (9, [.ref x.1, .int x.2.1, .int x.2.2.1, .int x.2.2.2.1, .int x.2.2.2.2.1, .int x.2.2.2.2.2.1, .int x.2.2.2.2.2.2])
def shR (Γ : Gm) (S : Sh) (w : Wd) : Prop := w S.pr = some (true, .inr (11, [.int S.pm, .ref S.pd, .int (nI S.np)])) ∧ w S.pd = some (true, .inl (Γ.2.1 6, 8, .inr (.inr (.inr (.inr S.pf))))) ∧ S.np ≤ 8 ∧ (∀ j, j < S.np → ∃ v, S.pf j = some v ∧ w v = some (true, xcell (S.px j))) ∧ w S.wv = some (true, .inl (Γ.2.1 0, 6, .inl S.wf))
def plO (Γ : Gm) (S : Sh) (p : Nat) (P : Pl) (w : Wd) : Prop := w p = some (true, pcell S P) ∧ w P.st = some (true, .inl (Γ.2.1 0, 7, .inl P.sf)) ∧ w P.ba = some (true, .inr (11, [.int P.bm, .ref P.bd, .int (nI P.nb)])) ∧ w P.bd = some (true, .inl (Γ.2.1 6, 20, .inr (.inr (.inr (.inr P.bf))))) ∧ P.nb ≤ 20 ∧ (∀ j, j < P.nb → ∃ v, P.bf j = some v ∧ w v = some (true, bcell (P.bx j))) ∧ ∀ i j, i < P.nb → j < P.nb → P.bf i = P.bf j → i = j
def shA (S : Sh) (a : Nat) : Prop := a = S.pr ∨ a = S.pd ∨ a = S.wv ∨ ∃ j, j < S.np ∧ S.pf j = some a
def plA (p : Nat) (P : Pl) (a : Nat) : Prop := a = p ∨ a = P.st ∨ a = P.ba ∨ a = P.bd ∨ ∃ j, j < P.nb ∧ P.bf j = some a
theorem shR.fr {Γ : Gm} {S : Sh} {w w' : Wd} (h : shR Γ S w) (hk : ∀ a, shA S a → w' a = w a) : shR Γ S w' := by
  obtain ⟨h1, h2, h3, h4, h5⟩ := h
  refine ⟨(hk _ (Or.inl rfl)).trans h1, (hk _ (Or.inr (Or.inl rfl))).trans h2, h3, fun j hj => ?_, (hk _ (Or.inr (Or.inr (Or.inl rfl)))).trans h5⟩
  obtain ⟨v, e1, e2⟩ := h4 j hj
  exact ⟨v, e1, (hk v (Or.inr (Or.inr (Or.inr ⟨j, hj, e1⟩)))).trans e2⟩
theorem plO.fr {Γ : Gm} {S : Sh} {p : Nat} {P : Pl} {w w' : Wd} (h : plO Γ S p P w) (hk : ∀ a, plA p P a → w' a = w a) : plO Γ S p P w' := by
  obtain ⟨h1, h2, h3, h4, h5, h6, h7⟩ := h
  refine ⟨(hk _ (Or.inl rfl)).trans h1, (hk _ (Or.inr (Or.inl rfl))).trans h2, (hk _ (Or.inr (Or.inr (Or.inl rfl)))).trans h3, (hk _ (Or.inr (Or.inr (Or.inr (Or.inl rfl))))).trans h4, h5, fun j hj => ?_, h7⟩
  obtain ⟨v, e1, e2⟩ := h6 j hj
  exact ⟨v, e1, (hk v (Or.inr (Or.inr (Or.inr (Or.inr ⟨j, hj, e1⟩))))).trans e2⟩
theorem shR.has {Γ : Gm} {S : Sh} {w : Wd} (h : shR Γ S w) {a : Nat} (ha : shA S a) : ∃ q, w a = some q := by
  obtain ⟨h1, h2, h3, h4, h5⟩ := h
  rcases ha with rfl | rfl | rfl | ⟨j, hj, e⟩
  · exact ⟨_, h1⟩
  · exact ⟨_, h2⟩
  · exact ⟨_, h5⟩
  · obtain ⟨v, e1, e2⟩ := h4 j hj
    rw [e] at e1; cases e1; exact ⟨_, e2⟩
theorem plO.has {Γ : Gm} {S : Sh} {p : Nat} {P : Pl} {w : Wd} (h : plO Γ S p P w) {a : Nat} (ha : plA p P a) : ∃ q, w a = some q := by
  obtain ⟨h1, h2, h3, h4, h5, h6, h7⟩ := h
  rcases ha with rfl | rfl | rfl | rfl | ⟨j, hj, e⟩
  · exact ⟨_, h1⟩
  · exact ⟨_, h2⟩
  · exact ⟨_, h3⟩
  · exact ⟨_, h4⟩
  · obtain ⟨v, e1, e2⟩ := h6 j hj
    rw [e] at e1; cases e1; exact ⟨_, e2⟩
theorem plO.lel {Γ : Gm} {S : Sh} {p : Nat} {P : Pl} {w : Wd} (h : plO Γ S p P w) : lel w 10 P.nb P.bf := fun j hj => by
  obtain ⟨v, e1, e2⟩ := h.2.2.2.2.2.1 j hj
  exact ⟨v, _, e1, e2⟩
theorem c2_X2_productOf : CG yX2_productOf cX2_productOf 2 (Option.some (Jvm.ClassFile.FieldType.object "BakeryPlan$Product")) 1 := ⟨q783, q124, q785, by decide +kernel⟩
theorem m2_X2_productOf {Γ : Gm} {l : Launch} {w : Wd} (hg : gC Γ) {S : Sh} {P : Pl} {p : Nat} (hS : shR Γ S w) (hO : plO Γ S p P w) {b k v : Nat} (hb : b < P.nb) (hk : (P.bx b).1 = nI k) (hk2 : k < S.np) (hv : S.pf k = some v)  : M0 Γ l yX2_productOf (ws_ yX2_productOf cX2_productOf 2 (Option.some (Jvm.ClassFile.FieldType.object "BakeryPlan$Product"))) (rl 3 0 0) 0 0 [.ref (p), .int (nI b)] w (fun v9 w9 => v9 = some (.ref (v)) ∧ w9 = w) := by
  refine M0.of (lv := [some (.ref (p)), some (.int (nI b))]) (by decide) (Nat.le_of_ble_eq_true rfl) 0 rfl rfl ?_
  intro X hX hR hl hG hnm
  subst hl; subst hG
  obtain ⟨bv, hbe, hbv⟩ := hO.2.2.2.2.2.1 b hb
  have hbv : w bv = some (true, .inr (10, [.int (nI k), .int (P.bx b).2.1, .int (P.bx b).2.2])) := by rw [hbv, bcell, hk]
  obtain ⟨v2, hve, hvv⟩ := hS.2.2.2.1 k hk2
  have hvv : w v = some (true, xcell (S.px k)) := by rw [hve] at hv; cases hv; exact hvv
  have h20 := hO.2.2.2.2.1
  have h8 := hS.2.2.1
  refine v_aload_n hX dX2_productOf_0 rfl ?_
  refine v_get hX dX2_productOf_1 in_X2 cl_2 0 (by decide) q523 (fun _ h => h) hO.1 rfl ?_
  refine v_aload_n hX dX2_productOf_4 rfl ?_
  refine v_get hX dX2_productOf_5 in_X2 cl_2 3 (by decide) q534 (fun _ h => h) hO.1 rfl ?_
  refine v_iload_n hX dX2_productOf_8 rfl ?_
  refine v_cVe hX rfl dX2_productOf_9 q786 c2_J2_get q788 rfl cl_11 hO.2.2.1 (m2_J2_get hb h20 (by decide) hbe hO.2.2.1 hO.2.2.2.1) rfl ⟨rfl, rfl⟩ ⟨Nat.le_of_ble_eq_true rfl, Nat.le_of_ble_eq_true rfl⟩ rfl (Nat.le_of_ble_eq_true rfl) ⟨Nat.le_of_ble_eq_true rfl, Nat.le_of_ble_eq_true rfl⟩ ?_
  refine v_chk hX dX2_productOf_12 q800 cl_10 hbv ?_
  refine v_getM hX dX2_productOf_15 hg in_X12 cl_10 0 (by decide) q974 (fun _ h => h) hbv rfl ?_
  refine v_cVe hX rfl dX2_productOf_18 q786 c2_J2_get q788 rfl cl_11 hS.1 (m2_J2_get hk2 h8 (by decide) hv hS.1 hS.2.1) rfl ⟨rfl, rfl⟩ ⟨Nat.le_of_ble_eq_true rfl, Nat.le_of_ble_eq_true rfl⟩ rfl (Nat.le_of_ble_eq_true rfl) ⟨Nat.le_of_ble_eq_true rfl, Nat.le_of_ble_eq_true rfl⟩ ?_
  refine v_chk hX dX2_productOf_21 q801 cl_9 hvv ?_
  exact v_aret hX dX2_productOf_24 hR (Nat.le_of_ble_eq_true rfl) (Nat.le_of_ble_eq_true rfl) (by first | exact Or.inl ⟨_, rfl⟩ | exact Or.inr ⟨_, rfl⟩) (by first | exact Or.inl rfl | exact Or.inr ⟨_, rfl⟩) (⟨rfl, rfl⟩)
theorem lel_upA {w : Wd} {ci s a : Nat} {f : Nat → Option Nat} {q : Bool × va_E} {z : ClassId × vp_A} (h : lel w ci s f) (ha : w a = some (true, .inl z)) : lel (wup w a q) ci s f := by
  intro j hj
  obtain ⟨v, fs, h1, h2⟩ := h j hj
  exact ⟨v, fs, h1, (wup_n (wne2 h2 ha (by simp))).trans h2⟩
theorem lel_rem {w : Wd} {ci s i : Nat} {f : Nat → Option Nat} (h : lel w ci s f) : lel w ci (s - 1) (lrem f s i) := by
  intro j hj
  unfold lrem
  by_cases h1 : j < i
  · rw [if_pos h1]; exact h j (by omega)
  · rw [if_neg h1, if_pos (by omega)]; exact h (j + 1) (by omega)
theorem lswap {f : Nat → Option Nat} {n i v : Nat} (h : i + 1 < n) (hv : f i = some v) : ∀ j, j < n → lins (lrem f n i) (n - 1) (i + 1) v j = if j = i then f (i + 1) else if j = i + 1 then f i else f j := by
  intro j hj
  unfold lins lrem
  by_cases e1 : j = i
  · rw [if_pos (by omega), if_neg (by omega), if_pos (by omega), if_pos e1, e1]
  · rw [if_neg e1]
    by_cases e2 : j = i + 1
    · rw [if_neg (by omega), if_pos e2, if_pos e2, hv]
    · rw [if_neg e2, if_neg e2]
      by_cases e3 : j < i
      · rw [if_pos (by omega), if_pos e3]
      · rw [if_neg (by omega), if_pos (by omega), if_neg (by omega), if_pos (by omega)]
        congr 1; omega
theorem c2_X2_swap : CG yX2_swap cX2_swap 3 none 1 := ⟨q1059, q124, q1061, by decide +kernel⟩
theorem m2_X2_swap {Γ : Gm} {l : Launch} {w : Wd} (hg : gC Γ) {S : Sh} {P : Pl} {p : Nat} (hO : plO Γ S p P w) {i : Nat} (hi : i + 1 < P.nb)  : M0 Γ l yX2_swap (ws_ yX2_swap cX2_swap 3 none) (rl 3 0 0) 0 0 [.ref (p), .int (nI i)] w (fun v9 w9 => v9 = none ∧ ∃ g : Nat → Option Nat, w9 = wup (wup w P.ba (true, .inr (11, [.int (P.bm + 1 + 1), .ref (P.bd), .int (nI P.nb)]))) P.bd (true, .inl (Γ.2.1 6, 20, .inr (.inr (.inr (.inr (g)))))) ∧ ∀ j, j < P.nb → g j = if j = i then P.bf (i + 1) else if j = i + 1 then P.bf i else P.bf j) := by
  refine M0.of (lv := [some (.ref (p)), some (.int (nI i)), none]) (by decide) (Nat.le_of_ble_eq_true rfl) 1 rfl rfl ?_
  intro X hX hR hl hG hnm
  subst hl; subst hG
  obtain ⟨v, hve, hvv⟩ := hO.2.2.2.2.2.1 i (by omega)
  have h20 := hO.2.2.2.2.1
  refine v_aload_n hX dX2_swap_0 rfl ?_
  refine v_get hX dX2_swap_1 in_X2 cl_2 3 (by decide) q534 (fun _ h => h) hO.1 rfl ?_
  refine v_iload_n hX dX2_swap_4 rfl ?_
  refine v_cVe hX rfl dX2_swap_5 q1062 c2_J2_remove q1064 rfl cl_11 hO.2.2.1 (m2_J2_remove hg cl_10 q2685 (by decide) (hO.lel) (by omega) (h20) (by decide) (hve) hO.2.2.1 hO.2.2.2.1) rfl ⟨rfl, rfl⟩ ⟨Nat.le_of_ble_eq_true rfl, Nat.le_of_ble_eq_true rfl⟩ rfl (Nat.le_of_ble_eq_true rfl) ⟨Nat.le_of_ble_eq_true rfl, Nat.le_of_ble_eq_true rfl⟩ ?_
  refine v_chk hX dX2_swap_8 q800 cl_10 ((wup_n (wne2 hvv hO.2.2.2.1 (by simp))).trans ((wup_n (wne2 hvv hO.2.2.1 (by simp))).trans hvv)) ?_
  refine v_astore_n (lv' := [_, _, _]) hX dX2_swap_11 (Nat.le_of_ble_eq_true rfl) rfl rfl ?_
  refine v_aload_n hX dX2_swap_12 rfl ?_
  refine v_get hX dX2_swap_13 in_X2 cl_2 3 (by decide) q534 (fun _ h => h) ((wup_n (wne2 hO.1 hO.2.2.2.1 (by simp))).trans ((wup_n (wne2 hO.1 hO.2.2.1 (by simp))).trans hO.1)) rfl ?_
  refine v_iload_n hX dX2_swap_16 rfl ?_
  refine v_iconst hX dX2_swap_17 ki1 ?_
  refine v_iadd hX dX2_swap_18 ?_
  refine V.topi (y := nI (i + 1)) (nI_1 i) ?_
  refine v_aload_n hX dX2_swap_19 rfl ?_
  refine v_cVe0 hX rfl dX2_swap_20 q1071 c2_J2_add_3 q1073 rfl cl_11 ((wup_n (wne2 hO.2.2.1 hO.2.2.2.1 (by simp))).trans wup_s) (m2_J2_add_3 hg cl_10 q2685 (by decide) (wne2 hvv hO.2.2.1 (by simp)) (lel_upA (lel_up (lel_rem hO.lel) (by decide) hO.2.2.1) ((wup_n (wne2 hO.2.2.2.1 hO.2.2.1 (by simp))).trans hO.2.2.2.1)) (by omega) (by omega) (by decide) ((wup_n (wne2 hO.2.2.1 hO.2.2.2.1 (by simp))).trans wup_s) wup_s ((wup_n (wne2 hvv hO.2.2.2.1 (by simp))).trans ((wup_n (wne2 hvv hO.2.2.1 (by simp))).trans hvv))) rfl ⟨rfl, rfl⟩ ⟨Nat.le_of_ble_eq_true rfl, Nat.le_of_ble_eq_true rfl⟩ rfl (Nat.le_of_ble_eq_true rfl) ⟨Nat.le_of_ble_eq_true rfl, Nat.le_of_ble_eq_true rfl⟩ ?_
  exact v_vret hX dX2_swap_23 hR (Nat.le_of_ble_eq_true rfl) (Nat.le_of_ble_eq_true rfl) (⟨rfl, lins (lrem P.bf P.nb i) (P.nb - 1) (i + 1) v, by rw [show P.nb - 1 + 1 = P.nb by omega]; exact (by funext z; unfold wup; by_cases e0 : z = P.ba <;>  by_cases e1 : z = P.bd <;> simp [e0, e1, (wne2 hO.2.2.1 hO.2.2.2.1 (by simp)), Ne.symm (wne2 hO.2.2.1 hO.2.2.2.1 (by simp))]), lswap hi hve⟩)
