/-! the twin: texts, what is read -/
noncomputable section
set_option maxRecDepth 100000
def tT (x : TS) : Prop := ∃ k : Nat, k ≤ 700 ∧ x.1 22 = nI k
theorem tT.ne {x : TS} (h : tT x) : ¬ x.1 22 = -1 := by
  obtain ⟨k, hk, e⟩ := h
  rw [e]; exact nI_m1 (by omega)
/-- only the reader's own numbers change -/
def tRd (x y : TS) : Prop := (∀ j, j ≠ 21 → j ≠ 22 → j ≠ 23 → j ≠ 24 → j ≠ 26 → y.1 j = x.1 j) ∧ y.2.2 = x.2.2
theorem tRd.tr {x y z : TS} (h1 : tRd x y) (h2 : tRd y z) : tRd x z := ⟨fun j a b c d e => (h2.1 j a b c d e).trans (h1.1 j a b c d e), h2.2.trans h1.2⟩
theorem tRd.rf {x : TS} : tRd x x := ⟨fun _ _ _ _ _ _ => rfl, rfl⟩
theorem skip_j {x : TS} {j : Nat} (h : j ≠ 21) : (tw_skip x).1 j = x.1 j := it_keep (f := fun _ y => tw_adv y) (fun y : TS => y.1 j) (fun _ _ => sI_n h) _ _
theorem skip_2 {x : TS} : (tw_skip x).2 = x.2 := it_keep (f := fun _ y => tw_adv y) (fun y : TS => y.2) (fun _ _ => rfl) _ _
theorem rw_j {x : TS} {j : Nat} (h : j ≠ 21) (h2 : j ≠ 23) : (tw_rw x).1 j = x.1 j := by
  refine (sI_n h2).trans (it_keep (fun y : TS => y.1 j) (fun i y => ?_) (tw_wl x) (sL x 25 0))
  unfold tw_rw1 tw_adv
  rw [sI_n h]; split <;> rfl
theorem rw_2 {x : TS} : (tw_rw x).2.2 = x.2.2 := by
  refine (it_keep (fun y : TS => y.2.2) (fun i y => ?_) (tw_wl x) (sL x 25 0))
  unfold tw_rw1 tw_adv
  rw [sI_2]; split <;> rfl
theorem rn_j {x : TS} {j : Nat} (h : j ≠ 21) (h2 : j ≠ 23) (h3 : j ≠ 24) : (tw_rn x).1 j = x.1 j := by
  refine (sI_n h2).trans ((it_keep (fun y : TS => y.1 j) (fun i y => ?_) (tw_nl x) (sI x 24 0)).trans (sI_n h3))
  unfold tw_rn1 tw_adv
  rw [sI_n h]; split
  · rfl
  · exact sI_n h3
theorem rn_2 {x : TS} : (tw_rn x).2 = x.2 := by
  refine (it_keep (fun y : TS => y.2) (fun i y => ?_) (tw_nl x) (sI x 24 0))
  unfold tw_rn1 tw_adv
  rw [sI_2]; split <;> rfl
theorem tk2_j {x : TS} {j : Nat} (h : j ≠ 21) (h2 : j ≠ 23) (h3 : j ≠ 24) : (tw_tk2 x).1 j = x.1 j := by
  unfold tw_tk2 tw_adv
  repeat' split
  · exact rw_j h h2
  · exact rn_j h h2 h3
  · rw [sI_n h, sI_n h2]
  · rw [sI_n h, sI_n h2]
  · rw [sI_n h2]
theorem tk2_2 {x : TS} : (tw_tk2 x).2.2 = x.2.2 := by
  unfold tw_tk2 tw_adv
  repeat' split
  · exact rw_2
  · exact congrArg Prod.snd rn_2
  · rfl
  · rfl
  · rfl
theorem tok_j {x : TS} {j : Nat} (h : j ≠ 21) (h1 : j ≠ 22) (h2 : j ≠ 23) (h3 : j ≠ 24) : (tw_tok x).1 j = x.1 j := by rw [tw_tok_eq]; exact (tk2_j h h2 h3).trans ((sI_n h1).trans (skip_j h))
theorem tok_2 {x : TS} : (tw_tok x).2.2 = x.2.2 := by rw [tw_tok_eq]; exact tk2_2.trans (congrArg Prod.snd skip_2)
theorem tok_Rd {x : TS} : tRd x (tw_tok x) := ⟨fun _ a b c d _ => tok_j a b c d, tok_2⟩
theorem must_Rd {b : Int32} {x : TS} : tRd x (tw_must b x) := by
  rw [tw_must_eq]
  repeat' split
  · exact ⟨fun _ _ _ _ _ e => sI_n e, rfl⟩
  · exact tRd.rf
  · exact tRd.rf
theorem go_Rd {x : TS} : tRd x (tw_go x) := by
  rw [tw_go_eq]
  split
  · exact tok_Rd
  · exact tRd.rf
theorem tk2_X {x : TS} (hT : tX x) : tX (tw_tk2 x) := by
  unfold tw_tk2
  repeat' split
  · exact tw_rw_X hT
  · exact tw_rn_X hT
  · rename_i c _ _ _
    rw [hT.2.1, hT.2.2.2] at c
    have h1 := hT.1
    have h3 := hT.2.2.1
    have c2 : tp x < tl x := (nI_ltI (by omega) (by omega)).mp c
    refine tX_of hT (y := tw_adv (sI x 23 3)) rfl (j := tp x + 1) ?_ c2
    show x.1 21 + 1 = _
    rw [hT.2.2.2, nI_1]
  · rename_i c _ _ _
    rw [hT.2.1, hT.2.2.2] at c
    have h1 := hT.1
    have h3 := hT.2.2.1
    have c2 : tp x < tl x := (nI_ltI (by omega) (by omega)).mp c
    refine tX_of hT (y := tw_adv (sI x 23 4)) rfl (j := tp x + 1) ?_ c2
    show x.1 21 + 1 = _
    rw [hT.2.2.2, nI_1]
  · exact tX_sI hT (by decide) (by decide)
theorem tok_X {x : TS} (hT : tX x) : tX (tw_tok x) := by rw [tw_tok_eq]; exact tk2_X (tX_sI (tw_skip_X hT) (by decide) (by decide))
theorem tok_T {x : TS} (hT : tX x) : tT (tw_tok x) := by
  have h := tw_skip_X hT
  refine ⟨tp (tw_skip x), Nat.le_trans h.2.2.1 h.1, ?_⟩
  rw [tw_tok_eq]
  exact (tk2_j (by decide) (by decide) (by decide)).trans (sI_s.trans h.2.2.2)
theorem must_X {b : Int32} {x : TS} (hT : tX x) : tX (tw_must b x) := by
  rw [tw_must_eq]
  repeat' split
  · exact tX_sI hT (by decide) (by decide)
  · exact hT
  · exact hT
theorem must_T {b : Int32} {x : TS} (hT : tT x) : tT (tw_must b x) := by
  rw [tw_must_eq]
  repeat' split
  · exact hT
  · exact hT
  · exact hT
theorem go_X {x : TS} (hT : tX x) : tX (tw_go x) := by
  rw [tw_go_eq]
  split
  · exact tok_X hT
  · exact hT
theorem go_T {x : TS} (hT : tX x) (h : tT x) : tT (tw_go x) := by
  rw [tw_go_eq]
  split
  · exact tok_T hT
  · exact h
theorem must_w {b : Int32} {x : TS} (hT : tT x) (h : (tw_must b x).1 26 = -1) : ¬ b = 0 ∧ x.1 26 = -1 := by
  rw [tw_must_eq] at h
  repeat' split at h
  · exact absurd (sI_s.symm.trans h) hT.ne
  · rename_i c; exact absurd h c
  · rename_i c; exact ⟨c, h⟩
theorem tok_w {x : TS} (h : (tw_tok x).1 26 = -1) : x.1 26 = -1 := (tok_j (by decide) (by decide) (by decide) (by decide)).symm.trans h
theorem go_w {x : TS} (h : (tw_go x).1 26 = -1) : x.1 26 = -1 := by
  rw [tw_go_eq] at h
  split at h
  · rename_i c; exact c
  · exact h
theorem must_j {b : Int32} {x : TS} {j : Nat} (h : j ≠ 26) : (tw_must b x).1 j = x.1 j := by
  rw [tw_must_eq]
  repeat' split
  · exact sI_n h
  · rfl
  · rfl
def np (x : TS) : Nat := (x.1 27).toNatClampNeg
def nw (x : TS) : Nat := (x.1 28).toNatClampNeg
def nbt (x : TS) : Nat := (x.2.2.1 1 78).toNatClampNeg
/-- what is read so far -/
def tR (x : TS) : Prop := np x ≤ 8 ∧ x.1 27 = nI (np x) ∧ nw x ≤ 6 ∧ x.1 28 = nI (nw x) ∧ nbt x ≤ 20 ∧ x.2.2.1 1 78 = nI (nbt x)
theorem tR.of {x y : TS} (h : tR x) (e1 : y.1 27 = x.1 27) (e2 : y.1 28 = x.1 28) (e3 : y.2.2.1 1 78 = x.2.2.1 1 78) : tR y := by
  unfold tR np nw nbt
  rw [e1, e2, e3]
  exact h
theorem tR.rd {x y : TS} (h : tR x) (e : tRd x y) : tR y := h.of (e.1 27 (by decide) (by decide) (by decide) (by decide) (by decide)) (e.1 28 (by decide) (by decide) (by decide) (by decide) (by decide)) (by rw [e.2])
def tw_ph (x : TS) : Int32 := if x.1 23 = 1 then ff (fun p => x.2.2.2 30 (nI p).toNatClampNeg = x.2.1 25) (np x) else -1
theorem tw_ph_ok {x : TS} (h : tR x) : tw_ph x = -1 ∨ vp_in (tw_ph x) (np x) := by
  unfold tw_ph
  split
  · exact ff_ok (Nat.le_trans h.1 (by decide))
  · exact Or.inl rfl
def tw_val2 (y : TS) : Int32 × TS := if y.1 26 = -1 then (y.1 24, tw_tok y) else (0, y)
def tw_val_d (lo hi : Int32) (x : TS) : Int32 × TS := tw_val2 (tw_must (bi (x.1 23 = 2 ∧ (lo ≤ x.1 24 ∧ x.1 24 ≤ hi))) x)
theorem tw_val_ex : ∃ g : Int32 → Int32 → TS → Int32 × TS, ∀ lo hi x, g lo hi x = tw_val_d lo hi x := ⟨tw_val_d, fun _ _ _ => rfl⟩
noncomputable def tw_val : Int32 → Int32 → TS → Int32 × TS := Classical.choose tw_val_ex
theorem tw_val_eq (lo hi : Int32) (x : TS) : tw_val lo hi x = tw_val2 (tw_must (bi (x.1 23 = 2 ∧ (lo ≤ x.1 24 ∧ x.1 24 ≤ hi))) x) := Classical.choose_spec tw_val_ex lo hi x
theorem val_Rd {lo hi : Int32} {x : TS} : tRd x (tw_val lo hi x).2 := by
  rw [tw_val_eq]; unfold tw_val2
  split
  · exact must_Rd.tr tok_Rd
  · exact must_Rd
theorem val_X {lo hi : Int32} {x : TS} (hT : tX x) : tX (tw_val lo hi x).2 := by
  rw [tw_val_eq]; unfold tw_val2
  split
  · exact tok_X (must_X hT)
  · exact must_X hT
theorem val_T {lo hi : Int32} {x : TS} (hT : tX x) (h : tT x) : tT (tw_val lo hi x).2 := by
  rw [tw_val_eq]; unfold tw_val2
  split
  · exact tok_T (must_X hT)
  · exact must_T h
theorem val_w {lo hi : Int32} {x : TS} (hT : tT x) (h : (tw_val lo hi x).2.1 26 = -1) : x.1 26 = -1 ∧ (tw_val lo hi x).1 = x.1 24 ∧ lo ≤ x.1 24 ∧ x.1 24 ≤ hi := by
  rw [tw_val_eq] at h ⊢
  unfold tw_val2 at h ⊢
  split at h
  · rename_i c
    have q := must_w hT c
    rw [if_pos c]
    exact ⟨q.2, must_j (by decide), (bi_n0.mp q.1).2⟩
  · rename_i c; exact absurd h c
end
