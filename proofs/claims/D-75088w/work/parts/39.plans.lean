/-! batches, products, plans -/
set_option maxRecDepth 100000
theorem kb6 : (Int8.ofInt (6)).toInt32 = 6 := by decide +kernel
theorem kb7 : (Int8.ofInt (7)).toInt32 = 7 := by decide +kernel
theorem kb10 : (Int8.ofInt (10)).toInt32 = 10 := by decide +kernel
theorem kb20 : (Int8.ofInt (20)).toInt32 = 20 := by decide +kernel
theorem ki2 : Int32.ofInt (2) = 2 := by decide +kernel
theorem ki3 : Int32.ofInt (3) = 3 := by decide +kernel
theorem ki4 : Int32.ofInt (4) = 4 := by decide +kernel
theorem ki5 : Int32.ofInt (5) = 5 := by decide +kernel
theorem c2_X12_init : CG yX12_init cX12_init 4 none 3 := ⟨q970, q156, q971, by decide +kernel⟩
theorem m2_X12_init {Γ : Gm} {l : Launch} {w : Wd} (hg : gC Γ) {q : Nat} {p s v : Int32} (hq : w (q) = some (true, .inr (10, [.int (0), .int (0), .int (0)]))) : M0 Γ l yX12_init (ws_ yX12_init cX12_init 4 none) (rl 1 0 0) 0 0 [.ref (q), .int (p), .int (s), .int (v)] w (fun v9 w9 => v9 = none ∧ w9 = (wup w (q) (true, .inr (10, [.int (p), .int (s), .int (v)])))) := by
  refine M0.of (lv := [some (.ref (q)), some (.int (p)), some (.int (s)), some (.int (v))]) (by decide) (Nat.le_of_ble_eq_true rfl) 0 rfl rfl ?_
  intro X hX hR hl hG hnm
  subst hl; subst hG
  refine v_aload_n hX dX12_init_0 rfl ?_
  refine v_obj hX rfl dX12_init_1 q972 (Nat.le_of_ble_eq_true rfl) (Nat.le_of_ble_eq_true rfl) ?_
  refine v_aload_n hX dX12_init_4 rfl ?_
  refine v_iload_n hX dX12_init_5 rfl ?_
  refine v_putFw (fs' := [.int (p), .int (0), .int (0)]) hX dX12_init_6 in_X12 tyX12 tyX12_ok nmX12 cl_10 0 (by decide) q973 (fun _ h => h) rfl hnm rfl (tyX12_ok 0 (by decide)) (rfl) (rfl) hq (Nat.le_of_ble_eq_true rfl) rfl ?_
  refine v_aload_n hX dX12_init_9 rfl ?_
  refine v_iload_n hX dX12_init_10 rfl ?_
  refine v_putw (fs' := [.int (p), .int (s), .int (0)]) hX dX12_init_11 in_X12 tyX12 tyX12_ok nmX12 cl_10 1 (by decide) q976 (fun _ h => h) rfl (tyX12_ok 1 (by decide)) (rfl) (rfl) wup_s (Nat.le_of_ble_eq_true rfl) rfl ?_
  refine V.at wup_ss rfl rfl ?_
  refine v_aload_n hX dX12_init_14 rfl ?_
  refine v_iload_n hX dX12_init_15 rfl ?_
  refine v_putw (fs' := [.int (p), .int (s), .int (v)]) hX dX12_init_16 in_X12 tyX12 tyX12_ok nmX12 cl_10 2 (by decide) q979 (fun _ h => h) rfl (tyX12_ok 2 (by decide)) (rfl) (rfl) wup_s (Nat.le_of_ble_eq_true rfl) rfl ?_
  refine V.at wup_ss rfl rfl ?_
  exact v_vret hX dX12_init_19 hR (Nat.le_of_ble_eq_true rfl) (Nat.le_of_ble_eq_true rfl) (⟨rfl, rfl⟩)
theorem c2_X12_copy : CG yX12_copy cX12_copy 1 (Option.some (Jvm.ClassFile.FieldType.object "BakeryPlan$Batch")) 0 := ⟨q964, q156, q966, by decide +kernel⟩
theorem m2_X12_copy {Γ : Gm} {l : Launch} {w : Wd} (hg : gC Γ) {b : Nat} {p s v : Int32} (hb : w (b) = some (true, .inr (10, [.int (p), .int (s), .int (v)]))) : M0 Γ l yX12_copy (ws_ yX12_copy cX12_copy 1 (Option.some (Jvm.ClassFile.FieldType.object "BakeryPlan$Batch"))) (rl 2 1 3) 1 3 [.ref (b)] w (fun v9 w9 => ∃ q : Nat, w q = none ∧ v9 = some (.ref q) ∧ w9 = wup w q (true, .inr (10, [.int (p), .int (s), .int (v)]))) := by
  refine M0.of (lv := [some (.ref (b))]) (by decide) (Nat.le_of_ble_eq_true rfl) 0 rfl rfl ?_
  intro X hX hR hl hG hnm
  subst hl; subst hG
  refine v_new (fs := [.int (0), .int (0), .int (0)]) hX dX12_copy_0 in_X12 tyX12 tyX12_ok q967 q968 q156 cl_10 (by decide) (Nat.le_of_ble_eq_true rfl) (Nat.le_of_ble_eq_true rfl) (fun q1 hq1 => ?_)
  refine v_dup hX dX12_copy_3 rfl ?_
  refine v_aload_n hX dX12_copy_4 rfl ?_
  refine v_get hX dX12_copy_5 in_X12 cl_10 0 (by decide) q973 (fun _ h => h) ((wup_n (wne hb hq1)).trans hb) rfl ?_
  refine v_aload_n hX dX12_copy_8 rfl ?_
  refine v_get hX dX12_copy_9 in_X12 cl_10 1 (by decide) q976 (fun _ h => h) ((wup_n (wne hb hq1)).trans hb) rfl ?_
  refine v_aload_n hX dX12_copy_12 rfl ?_
  refine v_get hX dX12_copy_13 in_X12 cl_10 2 (by decide) q979 (fun _ h => h) ((wup_n (wne hb hq1)).trans hb) rfl ?_
  refine v_cIe0 hX rfl dX12_copy_16 q969 c2_X12_init rfl (m2_X12_init hg wup_s) rfl ⟨rfl, rfl⟩ ⟨Nat.le_of_ble_eq_true rfl, Nat.le_of_ble_eq_true rfl⟩ rfl (Nat.le_of_ble_eq_true rfl) ⟨Nat.le_of_ble_eq_true rfl, Nat.le_of_ble_eq_true rfl⟩ ?_
  refine V.at wup_ss rfl rfl ?_
  exact v_aret hX dX12_copy_19 hR (Nat.le_of_ble_eq_true rfl) (Nat.le_of_ble_eq_true rfl) (by first | exact Or.inl ⟨_, rfl⟩ | exact Or.inr ⟨_, rfl⟩) (by first | exact Or.inl rfl | exact Or.inr ⟨_, rfl⟩) (⟨q1, hq1, rfl, rfl⟩)
theorem c2_X11_init : CG yX11_init cX11_init 8 none 7 := ⟨q1359, q155, q1360, by decide +kernel⟩
theorem m2_X11_init {Γ : Gm} {l : Launch} {w : Wd} (hg : gC Γ) {q n : Nat} {x1 x2 x3 x4 x5 x6 : Int32} (hq : w (q) = some (true, .inr (9, [.null, .int (0), .int (0), .int (0), .int (0), .int (0), .int (0)]))) : M0 Γ l yX11_init (ws_ yX11_init cX11_init 8 none) (rl 1 0 0) 0 0 [.ref (q), .ref (n), .int (x1), .int (x2), .int (x3), .int (x4), .int (x5), .int (x6)] w (fun v9 w9 => v9 = none ∧ w9 = (wup w (q) (true, .inr (9, [.ref (n), .int (x1), .int (x2), .int (x3), .int (x4), .int (x5), .int (x6)])))) := by
  refine M0.of (lv := [some (.ref (q)), some (.ref (n)), some (.int (x1)), some (.int (x2)), some (.int (x3)), some (.int (x4)), some (.int (x5)), some (.int (x6))]) (by decide) (Nat.le_of_ble_eq_true rfl) 0 rfl rfl ?_
  intro X hX hR hl hG hnm
  subst hl; subst hG
  refine v_aload_n hX dX11_init_0 rfl ?_
  refine v_obj hX rfl dX11_init_1 q1361 (Nat.le_of_ble_eq_true rfl) (Nat.le_of_ble_eq_true rfl) ?_
  refine v_aload_n hX dX11_init_4 rfl ?_
  refine v_aload_n hX dX11_init_5 rfl ?_
  refine v_putFw (fs' := [.ref (n), .int (0), .int (0), .int (0), .int (0), .int (0), .int (0)]) hX dX11_init_6 in_X11 tyX11 tyX11_ok nmX11 cl_9 0 (by decide) q1362 (fun _ h => h) rfl hnm rfl (tyX11_ok 0 (by decide)) (rfl) (rfl) hq (Nat.le_of_ble_eq_true rfl) rfl ?_
  refine v_aload_n hX dX11_init_9 rfl ?_
  refine v_iload_n hX dX11_init_10 rfl ?_
  refine v_putFw (fs' := [.ref (n), .int (x1), .int (0), .int (0), .int (0), .int (0), .int (0)]) hX dX11_init_11 in_X11 tyX11 tyX11_ok nmX11 cl_9 1 (by decide) q1365 (fun _ h => h) rfl hnm rfl (tyX11_ok 1 (by decide)) (rfl) (rfl) wup_s (Nat.le_of_ble_eq_true rfl) rfl ?_
  refine V.at wup_ss rfl rfl ?_
  refine v_aload_n hX dX11_init_14 rfl ?_
  refine v_iload_n hX dX11_init_15 rfl ?_
  refine v_putFw (fs' := [.ref (n), .int (x1), .int (x2), .int (0), .int (0), .int (0), .int (0)]) hX dX11_init_16 in_X11 tyX11 tyX11_ok nmX11 cl_9 2 (by decide) q1367 (fun _ h => h) rfl hnm rfl (tyX11_ok 2 (by decide)) (rfl) (rfl) wup_s (Nat.le_of_ble_eq_true rfl) rfl ?_
  refine V.at wup_ss rfl rfl ?_
  refine v_aload_n hX dX11_init_19 rfl ?_
  refine v_iload hX dX11_init_20 rfl ?_
  refine v_putFw (fs' := [.ref (n), .int (x1), .int (x2), .int (x3), .int (0), .int (0), .int (0)]) hX dX11_init_22 in_X11 tyX11 tyX11_ok nmX11 cl_9 3 (by decide) q1369 (fun _ h => h) rfl hnm rfl (tyX11_ok 3 (by decide)) (rfl) (rfl) wup_s (Nat.le_of_ble_eq_true rfl) rfl ?_
  refine V.at wup_ss rfl rfl ?_
  refine v_aload_n hX dX11_init_25 rfl ?_
  refine v_iload hX dX11_init_26 rfl ?_
  refine v_putFw (fs' := [.ref (n), .int (x1), .int (x2), .int (x3), .int (x4), .int (0), .int (0)]) hX dX11_init_28 in_X11 tyX11 tyX11_ok nmX11 cl_9 4 (by decide) q1371 (fun _ h => h) rfl hnm rfl (tyX11_ok 4 (by decide)) (rfl) (rfl) wup_s (Nat.le_of_ble_eq_true rfl) rfl ?_
  refine V.at wup_ss rfl rfl ?_
  refine v_aload_n hX dX11_init_31 rfl ?_
  refine v_iload hX dX11_init_32 rfl ?_
  refine v_putFw (fs' := [.ref (n), .int (x1), .int (x2), .int (x3), .int (x4), .int (x5), .int (0)]) hX dX11_init_34 in_X11 tyX11 tyX11_ok nmX11 cl_9 5 (by decide) q1373 (fun _ h => h) rfl hnm rfl (tyX11_ok 5 (by decide)) (rfl) (rfl) wup_s (Nat.le_of_ble_eq_true rfl) rfl ?_
  refine V.at wup_ss rfl rfl ?_
  refine v_aload_n hX dX11_init_37 rfl ?_
  refine v_iload hX dX11_init_38 rfl ?_
  refine v_putFw (fs' := [.ref (n), .int (x1), .int (x2), .int (x3), .int (x4), .int (x5), .int (x6)]) hX dX11_init_40 in_X11 tyX11 tyX11_ok nmX11 cl_9 6 (by decide) q1375 (fun _ h => h) rfl hnm rfl (tyX11_ok 6 (by decide)) (rfl) (rfl) wup_s (Nat.le_of_ble_eq_true rfl) rfl ?_
  refine V.at wup_ss rfl rfl ?_
  exact v_vret hX dX11_init_43 hR (Nat.le_of_ble_eq_true rfl) (Nat.le_of_ble_eq_true rfl) (⟨rfl, rfl⟩)
/-- the settings of a new plan -/
def set0 : Nat → Int32 := fun j => if j = 0 then 1 else if j = 1 then 1 else if j = 3 then 5 else if j = 4 then 4 else if j = 5 then 5 else if j = 6 then 10 else 0
theorem set0_eq : upd (upd (upd (upd (upd (upd (upd (fun _ => 0) (0 : Int32).toNatClampNeg 1) (1 : Int32).toNatClampNeg 1) (2 : Int32).toNatClampNeg 0) (3 : Int32).toNatClampNeg 5) (4 : Int32).toNatClampNeg 4) (5 : Int32).toNatClampNeg 5) (6 : Int32).toNatClampNeg 10 = set0 := by
  have e0 : (0 : Int32).toNatClampNeg = 0 := by decide
  have e1 : (1 : Int32).toNatClampNeg = 1 := by decide
  have e2 : (2 : Int32).toNatClampNeg = 2 := by decide
  have e3 : (3 : Int32).toNatClampNeg = 3 := by decide
  have e4 : (4 : Int32).toNatClampNeg = 4 := by decide
  have e5 : (5 : Int32).toNatClampNeg = 5 := by decide
  have e6 : (6 : Int32).toNatClampNeg = 6 := by decide
  rw [e0, e1, e2, e3, e4, e5, e6]
  funext j
  unfold upd set0
  by_cases h0 : j = 0 <;> by_cases h1 : j = 1 <;> by_cases h2 : j = 2 <;> by_cases h3 : j = 3 <;> by_cases h4 : j = 4 <;> by_cases h5 : j = 5 <;> by_cases h6 : j = 6 <;> simp [h0, h1, h2, h3, h4, h5, h6] <;> omega
theorem c2_X2_init : CG yX2_init cX2_init 3 none 2 := ⟨q518, q124, q519, by decide +kernel⟩
theorem m2_X2_init {Γ : Gm} {l : Launch} {w : Wd} (hg : gC Γ) {p pr wv : Nat} (hp : w (p) = some (true, .inr (2, [.null, .null, .null, .null, .int (0), .int (0)]))) : M0 Γ l yX2_init (ws_ yX2_init cX2_init 3 none) (rl 4 3 30) 3 30 [.ref (p), .ref (pr), .ref (wv)] w (fun v9 w9 => v9 = none ∧ ∃ s b d : Nat, w s = none ∧ w b = none ∧ w d = none ∧ s ≠ b ∧ s ≠ d ∧ b ≠ d ∧ w9 = wup (wup (wup (wup w s (true, .inl (Γ.2.1 0, 7, .inl (set0)))) b (true, .inr (11, [.int (0), .ref (d), .int (nI 0)]))) d (true, .inl (Γ.2.1 6, 20, .inr (.inr (.inr (.inr (fun _ => none))))))) p (true, .inr (2, [.ref (pr), .ref (wv), .ref (s), .ref (b), .int (0), .int (0)]))) := by
  refine M0.of (lv := [some (.ref (p)), some (.ref (pr)), some (.ref (wv))]) (by decide) (Nat.le_of_ble_eq_true rfl) 0 rfl rfl ?_
  intro X hX hR hl hG hnm
  subst hl; subst hG
  refine v_aload_n hX dX2_init_0 rfl ?_
  refine v_obj hX rfl dX2_init_1 q520 (Nat.le_of_ble_eq_true rfl) (Nat.le_of_ble_eq_true rfl) ?_
  refine v_aload_n hX dX2_init_4 rfl ?_
  refine v_bipush hX dX2_init_5 kb7 ?_
  refine v_newa (ti := 0) (N := 7) (a0 := (7, .inl (fun _ => 0))) hX dX2_init_7 q559 rfl rfl (fun _ => rfl) (by decide) (by decide) (Nat.le_of_ble_eq_true rfl) (Nat.le_of_ble_eq_true rfl) (Nat.le_of_ble_eq_true rfl) (fun q1 hq1 => ?_)
  refine v_dup hX dX2_init_9 rfl ?_
  refine v_iconst hX dX2_init_10 ki0 ?_
  refine v_iconst hX dX2_init_11 ki1 ?_
  refine v_iast hX dX2_init_12 wup_s (vin (by decide)) ?_
  refine V.at wup_ss rfl rfl ?_
  refine v_dup hX dX2_init_13 rfl ?_
  refine v_iconst hX dX2_init_14 ki1 ?_
  refine v_iconst hX dX2_init_15 ki1 ?_
  refine v_iast hX dX2_init_16 wup_s (vin (by decide)) ?_
  refine V.at wup_ss rfl rfl ?_
  refine v_dup hX dX2_init_17 rfl ?_
  refine v_iconst hX dX2_init_18 ki2 ?_
  refine v_iconst hX dX2_init_19 ki0 ?_
  refine v_iast hX dX2_init_20 wup_s (vin (by decide)) ?_
  refine V.at wup_ss rfl rfl ?_
  refine v_dup hX dX2_init_21 rfl ?_
  refine v_iconst hX dX2_init_22 ki3 ?_
  refine v_iconst hX dX2_init_23 ki5 ?_
  refine v_iast hX dX2_init_24 wup_s (vin (by decide)) ?_
  refine V.at wup_ss rfl rfl ?_
  refine v_dup hX dX2_init_25 rfl ?_
  refine v_iconst hX dX2_init_26 ki4 ?_
  refine v_iconst hX dX2_init_27 ki4 ?_
  refine v_iast hX dX2_init_28 wup_s (vin (by decide)) ?_
  refine V.at wup_ss rfl rfl ?_
  refine v_dup hX dX2_init_29 rfl ?_
  refine v_iconst hX dX2_init_30 ki5 ?_
  refine v_iconst hX dX2_init_31 ki5 ?_
  refine v_iast hX dX2_init_32 wup_s (vin (by decide)) ?_
  refine V.at wup_ss rfl rfl ?_
  refine v_dup hX dX2_init_33 rfl ?_
  refine v_bipush hX dX2_init_34 kb6 ?_
  refine v_bipush hX dX2_init_36 kb10 ?_
  refine v_iast hX dX2_init_38 wup_s (vin (by decide)) ?_
  refine V.at wup_ss rfl rfl ?_
  refine v_putFw (fs' := [.null, .null, .ref (q1), .null, .int (0), .int (0)]) hX dX2_init_39 in_X2 tyX2 tyX2_ok nmX2 cl_2 2 (by decide) q530 (fun _ h => h) rfl hnm rfl (tyX2_ok 2 (by decide)) (rfl) (rfl) ((wup_n (wne hp hq1)).trans hp) (Nat.le_of_ble_eq_true rfl) rfl ?_
  refine v_aload_n hX dX2_init_42 rfl ?_
  refine v_new (fs := [.int (0), .null, .int (0)]) hX dX2_init_43 in_J2 tyJ2 tyJ2_ok q521 q171 q127 cl_11 (by decide) (Nat.le_of_ble_eq_true rfl) (Nat.le_of_ble_eq_true rfl) (fun q2 hq2 => ?_)
  refine v_dup hX dX2_init_46 rfl ?_
  refine v_bipush hX dX2_init_47 kb20 ?_
  refine v_cI hX rfl dX2_init_49 q522 c2_J2_init rfl (m2_J2_init20 hg wup_s) rfl ⟨rfl, rfl⟩ ⟨Nat.le_of_ble_eq_true rfl, Nat.le_of_ble_eq_true rfl⟩ rfl (Nat.le_of_ble_eq_true rfl) ⟨Nat.le_of_ble_eq_true rfl, Nat.le_of_ble_eq_true rfl⟩ (fun v w49 h => ?_)
  obtain ⟨rfl, q3, hq3, rfl⟩ := h
  refine V.at rfl rfl (st2 := _ :: _) rfl ?_
  refine v_putFw (fs' := [.null, .null, .ref (q1), .ref (q2), .int (0), .int (0)]) hX dX2_init_52 in_X2 tyX2 tyX2_ok nmX2 cl_2 3 (by decide) q534 (fun _ h => h) rfl hnm rfl (tyX2_ok 3 (by decide)) (rfl) (rfl) ((wup_n (wne wup_s hq2)).trans ((wup_n (wne ((wup_n (wne wup_s hq2)).trans wup_s) hq3)).trans ((wup_n (wne wup_s hq2)).trans wup_s))) (Nat.le_of_ble_eq_true rfl) rfl ?_
  refine v_aload_n hX dX2_init_55 rfl ?_
  refine v_aload_n hX dX2_init_56 rfl ?_
  refine v_putFw (fs' := [.ref (pr), .null, .ref (q1), .ref (q2), .int (0), .int (0)]) hX dX2_init_57 in_X2 tyX2 tyX2_ok nmX2 cl_2 0 (by decide) q523 (fun _ h => h) rfl hnm rfl (tyX2_ok 0 (by decide)) (rfl) (rfl) wup_s (Nat.le_of_ble_eq_true rfl) rfl ?_
  refine V.at wup_ss rfl rfl ?_
  refine v_aload_n hX dX2_init_60 rfl ?_
  refine v_aload_n hX dX2_init_61 rfl ?_
  refine v_putFw (fs' := [.ref (pr), .ref (wv), .ref (q1), .ref (q2), .int (0), .int (0)]) hX dX2_init_62 in_X2 tyX2 tyX2_ok nmX2 cl_2 1 (by decide) q526 (fun _ h => h) rfl hnm rfl (tyX2_ok 1 (by decide)) (rfl) (rfl) wup_s (Nat.le_of_ble_eq_true rfl) rfl ?_
  refine V.at wup_ss rfl rfl ?_
  exact v_vret hX dX2_init_65 hR (Nat.le_of_ble_eq_true rfl) (Nat.le_of_ble_eq_true rfl) (⟨rfl, q1, q2, q3, hq1, (wup_none (wup_none hq2).1).1, (wup_none (wup_none (wup_none hq3).1).1).1, (wne ((wup_n (Ne.symm (wne hp hq1))).trans wup_s) hq2), (wne ((wup_n (wne ((wup_n (Ne.symm (wne hp hq1))).trans wup_s) hq2)).trans ((wup_n (Ne.symm (wne hp hq1))).trans wup_s)) hq3), (wne wup_s hq3), by rw [set0_eq, nI_0]; exact (by funext z; unfold wup; by_cases e0 : z = q1 <;>  by_cases e1 : z = p <;>  by_cases e2 : z = q2 <;>  by_cases e3 : z = q3 <;> simp [e0, e1, e2, e3, (Ne.symm (wne hp hq1)), Ne.symm (Ne.symm (wne hp hq1)), (wne ((wup_n (Ne.symm (wne hp hq1))).trans wup_s) hq2), Ne.symm (wne ((wup_n (Ne.symm (wne hp hq1))).trans wup_s) hq2), (wne ((wup_n (wne ((wup_n (Ne.symm (wne hp hq1))).trans wup_s) hq2)).trans ((wup_n (Ne.symm (wne hp hq1))).trans wup_s)) hq3), Ne.symm (wne ((wup_n (wne ((wup_n (Ne.symm (wne hp hq1))).trans wup_s) hq2)).trans ((wup_n (Ne.symm (wne hp hq1))).trans wup_s)) hq3), (wne wup_s hq2), Ne.symm (wne wup_s hq2), (wne ((wup_n (wne wup_s hq2)).trans wup_s) hq3), Ne.symm (wne ((wup_n (wne wup_s hq2)).trans wup_s) hq3), (wne wup_s hq3), Ne.symm (wne wup_s hq3)])⟩)
