/-! policies -/
set_option maxRecDepth 100000
theorem c2_X5_init : CG yX5_init cX5_init 1 none 0 := ⟨q572, q146, q573, by decide +kernel⟩
theorem m2_X5_init {Γ : Gm} {l : Launch} {w : Wd} (a : Nat)  : M0 Γ l yX5_init (ws_ yX5_init cX5_init 1 none) (rl 1 0 0) 0 0 [.ref (a)] w (fun v9 w9 => v9 = none ∧ w9 = w) := by
  refine M0.of (lv := [some (.ref (a))]) (by decide) (Nat.le_of_ble_eq_true rfl) 0 rfl rfl ?_
  intro X hX hR hl hG hnm
  subst hl; subst hG
  refine v_aload_n hX dX5_init_0 rfl ?_
  refine v_obj hX rfl dX5_init_1 q574 (Nat.le_of_ble_eq_true rfl) (Nat.le_of_ble_eq_true rfl) ?_
  exact v_vret hX dX5_init_4 hR (Nat.le_of_ble_eq_true rfl) (Nat.le_of_ble_eq_true rfl) (⟨rfl, rfl⟩)
theorem c2_X6_init : CG yX6_init cX6_init 1 none 0 := ⟨q580, q147, q581, by decide +kernel⟩
theorem m2_X6_init {Γ : Gm} {l : Launch} {w : Wd} (a : Nat)  : M0 Γ l yX6_init (ws_ yX6_init cX6_init 1 none) (rl 1 0 0) 0 0 [.ref (a)] w (fun v9 w9 => v9 = none ∧ w9 = w) := by
  refine M0.of (lv := [some (.ref (a))]) (by decide) (Nat.le_of_ble_eq_true rfl) 0 rfl rfl ?_
  intro X hX hR hl hG hnm
  subst hl; subst hG
  refine v_aload_n hX dX6_init_0 rfl ?_
  refine v_obj hX rfl dX6_init_1 q582 (Nat.le_of_ble_eq_true rfl) (Nat.le_of_ble_eq_true rfl) ?_
  exact v_vret hX dX6_init_4 hR (Nat.le_of_ble_eq_true rfl) (Nat.le_of_ble_eq_true rfl) (⟨rfl, rfl⟩)
theorem c2_X7_init : CG yX7_init cX7_init 1 none 0 := ⟨q587, q148, q588, by decide +kernel⟩
theorem m2_X7_init {Γ : Gm} {l : Launch} {w : Wd} (a : Nat)  : M0 Γ l yX7_init (ws_ yX7_init cX7_init 1 none) (rl 1 0 0) 0 0 [.ref (a)] w (fun v9 w9 => v9 = none ∧ w9 = w) := by
  refine M0.of (lv := [some (.ref (a))]) (by decide) (Nat.le_of_ble_eq_true rfl) 0 rfl rfl ?_
  intro X hX hR hl hG hnm
  subst hl; subst hG
  refine v_aload_n hX dX7_init_0 rfl ?_
  refine v_obj hX rfl dX7_init_1 q589 (Nat.le_of_ble_eq_true rfl) (Nat.le_of_ble_eq_true rfl) ?_
  exact v_vret hX dX7_init_4 hR (Nat.le_of_ble_eq_true rfl) (Nat.le_of_ble_eq_true rfl) (⟨rfl, rfl⟩)
theorem c2_X4_numbered : CS yX4_numbered cX4_numbered 1 (Option.some (Jvm.ClassFile.FieldType.object "BakeryPlan$Policy")) 1 := ⟨q567, q145, q568, by decide +kernel⟩
theorem m2_X4_numbered0 {Γ : Gm} {l : Launch} {w : Wd} (hg : gC Γ) {i : Int32} (hi : i = 0)  : M0 Γ l yX4_numbered (ws_ yX4_numbered cX4_numbered 1 (Option.some (Jvm.ClassFile.FieldType.object "BakeryPlan$Policy"))) (rl 2 1 0) 1 0 [.int (i)] w (fun v9 w9 => ∃ q : Nat, w q = none ∧ v9 = some (.ref q) ∧ w9 = wup w q (true, .inr (4, []))) := by
  refine M0.of (lv := [some (.int (i))]) (by decide) (Nat.le_of_ble_eq_true rfl) 0 rfl rfl ?_
  intro X hX hR hl hG hnm
  subst hl; subst hG
  refine v_iload_n hX dX4_numbered_0 rfl ?_
  refine v_lookup (off := 27) (tgt := 28) hX dX4_numbered_1 (by decide) (by subst hi; rfl) rfl ?_
  refine v_new (fs := []) hX dX4_numbered_28 in_T0 T0ty T0ty_ok q569 q570 q146 cl_4 (fun _ h => absurd h (Nat.not_lt_zero _)) (Nat.le_of_ble_eq_true rfl) (Nat.le_of_ble_eq_true rfl) (fun q1 hq1 => ?_)
  refine v_dup hX dX4_numbered_31 rfl ?_
  refine v_cINe0 hX rfl dX4_numbered_32 hg q571 c2_X5_init rfl (m2_X5_init (q1)) rfl ⟨rfl, rfl⟩ ⟨Nat.le_of_ble_eq_true rfl, Nat.le_of_ble_eq_true rfl⟩ rfl (Nat.le_of_ble_eq_true rfl) ⟨Nat.le_of_ble_eq_true rfl, Nat.le_of_ble_eq_true rfl⟩ ?_
  refine v_goto (tgt := 55) hX dX4_numbered_35 rfl ?_
  exact v_aret hX dX4_numbered_55 hR (Nat.le_of_ble_eq_true rfl) (Nat.le_of_ble_eq_true rfl) (by first | exact Or.inl ⟨_, rfl⟩ | exact Or.inr ⟨_, rfl⟩) (by first | exact Or.inl rfl | exact Or.inr ⟨_, rfl⟩) (⟨q1, hq1, rfl, rfl⟩)
theorem m2_X4_numbered1 {Γ : Gm} {l : Launch} {w : Wd} (hg : gC Γ) {i : Int32} (hi : i = 1)  : M0 Γ l yX4_numbered (ws_ yX4_numbered cX4_numbered 1 (Option.some (Jvm.ClassFile.FieldType.object "BakeryPlan$Policy"))) (rl 2 1 0) 1 0 [.int (i)] w (fun v9 w9 => ∃ q : Nat, w q = none ∧ v9 = some (.ref q) ∧ w9 = wup w q (true, .inr (5, []))) := by
  refine M0.of (lv := [some (.int (i))]) (by decide) (Nat.le_of_ble_eq_true rfl) 0 rfl rfl ?_
  intro X hX hR hl hG hnm
  subst hl; subst hG
  refine v_iload_n hX dX4_numbered_0 rfl ?_
  refine v_lookup (off := 37) (tgt := 38) hX dX4_numbered_1 (by decide) (by subst hi; rfl) rfl ?_
  refine v_new (fs := []) hX dX4_numbered_38 in_T0 T0ty T0ty_ok q577 q578 q147 cl_5 (fun _ h => absurd h (Nat.not_lt_zero _)) (Nat.le_of_ble_eq_true rfl) (Nat.le_of_ble_eq_true rfl) (fun q1 hq1 => ?_)
  refine v_dup hX dX4_numbered_41 rfl ?_
  refine v_cINe0 hX rfl dX4_numbered_42 hg q579 c2_X6_init rfl (m2_X6_init (q1)) rfl ⟨rfl, rfl⟩ ⟨Nat.le_of_ble_eq_true rfl, Nat.le_of_ble_eq_true rfl⟩ rfl (Nat.le_of_ble_eq_true rfl) ⟨Nat.le_of_ble_eq_true rfl, Nat.le_of_ble_eq_true rfl⟩ ?_
  refine v_goto (tgt := 55) hX dX4_numbered_45 rfl ?_
  exact v_aret hX dX4_numbered_55 hR (Nat.le_of_ble_eq_true rfl) (Nat.le_of_ble_eq_true rfl) (by first | exact Or.inl ⟨_, rfl⟩ | exact Or.inr ⟨_, rfl⟩) (by first | exact Or.inl rfl | exact Or.inr ⟨_, rfl⟩) (⟨q1, hq1, rfl, rfl⟩)
theorem m2_X4_numbered2 {Γ : Gm} {l : Launch} {w : Wd} (hg : gC Γ) {i : Int32} (h0 : ¬ i = 0) (h1 : ¬ i = 1)  : M0 Γ l yX4_numbered (ws_ yX4_numbered cX4_numbered 1 (Option.some (Jvm.ClassFile.FieldType.object "BakeryPlan$Policy"))) (rl 2 1 0) 1 0 [.int (i)] w (fun v9 w9 => ∃ q : Nat, w q = none ∧ v9 = some (.ref q) ∧ w9 = wup w q (true, .inr (6, []))) := by
  refine M0.of (lv := [some (.int (i))]) (by decide) (Nat.le_of_ble_eq_true rfl) 0 rfl rfl ?_
  intro X hX hR hl hG hnm
  subst hl; subst hG
  refine v_iload_n hX dX4_numbered_0 rfl ?_
  refine v_lookup (off := 47) (tgt := 48) hX dX4_numbered_1 (by decide) (by have h_0 := i32_ne (z := 0) h0 (by decide); have h_1 := i32_ne (z := 1) h1 (by decide); simp [Op.lookupswitch.offset, h_0, (Ne.symm h_0), h_1, (Ne.symm h_1)]) rfl ?_
  refine v_new (fs := []) hX dX4_numbered_48 in_T0 T0ty T0ty_ok q584 q585 q148 cl_6 (fun _ h => absurd h (Nat.not_lt_zero _)) (Nat.le_of_ble_eq_true rfl) (Nat.le_of_ble_eq_true rfl) (fun q1 hq1 => ?_)
  refine v_dup hX dX4_numbered_51 rfl ?_
  refine v_cINe0 hX rfl dX4_numbered_52 hg q586 c2_X7_init rfl (m2_X7_init (q1)) rfl ⟨rfl, rfl⟩ ⟨Nat.le_of_ble_eq_true rfl, Nat.le_of_ble_eq_true rfl⟩ rfl (Nat.le_of_ble_eq_true rfl) ⟨Nat.le_of_ble_eq_true rfl, Nat.le_of_ble_eq_true rfl⟩ ?_
  exact v_aret hX dX4_numbered_55 hR (Nat.le_of_ble_eq_true rfl) (Nat.le_of_ble_eq_true rfl) (by first | exact Or.inl ⟨_, rfl⟩ | exact Or.inr ⟨_, rfl⟩) (by first | exact Or.inl rfl | exact Or.inr ⟨_, rfl⟩) (⟨q1, hq1, rfl, rfl⟩)
theorem c2_X5_key : CG yX5_key cX5_key 3 (some .int) 2 := ⟨q855, q146, q857, by decide +kernel⟩
theorem m2_X5_key {Γ : Gm} {l : Launch} {w : Wd} {a g : Nat} {b : Int32}  : M0 Γ l yX5_key (ws_ yX5_key cX5_key 3 (some .int)) (rl 0 0 0) 0 0 [.ref (a), .ref (g), .int (b)] w (fun v9 w9 => v9 = some (.int (b)) ∧ w9 = w) := by
  refine M0.of (lv := [some (.ref (a)), some (.ref (g)), some (.int (b))]) (by decide) (Nat.le_of_ble_eq_true rfl) 0 rfl rfl ?_
  intro X hX hR hl hG hnm
  subst hl; subst hG
  refine v_iload_n hX dX5_key_0 rfl ?_
  exact v_iret hX dX5_key_1 hR (Nat.le_of_ble_eq_true rfl) (Nat.le_of_ble_eq_true rfl) (⟨rfl, rfl⟩)
/-- the class of a policy by its number -/
def pC (i : Int32) : Nat := if i = 0 then 4 else if i = 1 then 5 else 6
theorem m3_numbered {Γ : Gm} {l : Launch} {w : Wd} (hg : gC Γ) (i : Int32) : M0 Γ l yX4_numbered (ws_ yX4_numbered cX4_numbered 1 (Option.some (Jvm.ClassFile.FieldType.object "BakeryPlan$Policy"))) (rl 2 1 0) 1 0 [.int i] w (fun v9 w9 => ∃ q : Nat, w q = none ∧ v9 = some (.ref q) ∧ w9 = wup w q (true, .inr (pC i, []))) := by
  by_cases h0 : i = 0
  · rw [show pC i = 4 from if_pos h0]; exact m2_X4_numbered0 hg h0
  · by_cases h1 : i = 1
    · rw [show pC i = 5 by unfold pC; rw [if_neg h0, if_pos h1]]; exact m2_X4_numbered1 hg h1
    · rw [show pC i = 6 by unfold pC; rw [if_neg h0, if_neg h1]]; exact m2_X4_numbered2 hg h0 h1
theorem c2_X6_key : CG yX6_key cX6_key 3 (some .int) 2 := ⟨q848, q147, q850, by decide +kernel⟩
theorem mX6_key {Γ : Gm} {l : Launch} (hg : gC Γ) {G : Nat → Nat} {wB : Wd} {x : DS} {w : Wd} (hw : dW Γ G wB x w) {S : Sh} {P : Pl} (hP : dP Γ S P wB x) {a : Nat} {b : Int32} (hb : vp_in b P.nb) : MRd Γ l yX6_key (ws_ yX6_key cX6_key 3 (some .int)) (rl 6 0 0) [.ref a, .ref (G 19), .int b] w (.int (dy_old S P b - eG x 9 b)) := by
  refine M0.of (lv := [some (.ref a), some (.ref (G 19)), some (.int b)]) (by decide) (Nat.le_of_ble_eq_true rfl) 0 rfl rfl ?_
  intro X hX hR hl hG hnm
  subst hl; subst hG
  refine v_aload_n hX dX6_key_0 rfl ?_
  refine v_iload_n hX dX6_key_1 rfl ?_
  refine dv_callR hX rfl dX6_key_2 q851 cf_X3_oldest hw (mX3_oldest hg hw hP _ hb) rfl ⟨rfl, rfl⟩ ⟨Nat.le_of_ble_eq_true rfl, Nat.le_of_ble_eq_true rfl⟩ rfl (Nat.le_of_ble_eq_true rfl) ⟨Nat.le_of_ble_eq_true rfl, Nat.le_of_ble_eq_true rfl⟩ ?_
  refine v_aload_n hX dX6_key_5 rfl ?_
  refine v_getM hX dX6_key_6 hg in_X3 cl_3 9 (by decide) q609 (fun _ h => h) hw.1 rfl ?_
  refine v_iload_n hX dX6_key_9 rfl ?_
  refine dv_iald hX dX6_key_10 hw (by decide) rfl rfl (hP.b20 hb) ?_
  refine v_isub hX dX6_key_11 ?_
  exact v_iret hX dX6_key_12 hR (Nat.le_of_ble_eq_true rfl) (Nat.le_of_ble_eq_true rfl) (⟨rfl, rfl⟩)
theorem c2_X7_key : CG yX7_key cX7_key 3 (some .int) 2 := ⟨q861, q148, q863, by decide +kernel⟩
theorem mX7_key {Γ : Gm} {l : Launch} (hg : gC Γ) {G : Nat → Nat} {wB : Wd} {x : DS} {w : Wd} (hw : dW Γ G wB x w) {S : Sh} {P : Pl} (hP : dP Γ S P wB x) {a : Nat} {b : Int32} (hb : vp_in b P.nb) : MRd Γ l yX7_key (ws_ yX7_key cX7_key 3 (some .int)) (rl 3 0 0) [.ref a, .ref (G 19), .int b] w (.int (P.bx b.toNatClampNeg).2.2) := by
  refine M0.of (lv := [some (.ref a), some (.ref (G 19)), some (.int b)]) (by decide) (Nat.le_of_ble_eq_true rfl) 0 rfl rfl ?_
  intro X hX hR hl hG hnm
  subst hl; subst hG
  refine v_aload_n hX dX7_key_0 rfl ?_
  refine v_getM hX dX7_key_1 hg in_X3 cl_3 22 (by decide) q630 (fun _ h => h) hw.1 rfl ?_
  refine v_getM hX dX7_key_4 hg in_X2 cl_2 3 (by decide) q535 (fun _ h => h) (hP.2.1.day hw).1 rfl ?_
  refine v_iload_n hX dX7_key_7 rfl ?_
  refine v_cVe hX rfl dX7_key_8 q864 c2_J2_get q788 rfl cl_11 (hP.2.1.day hw).2.2.1 (m3_get (hP.2.1.day hw) _ (hb)) rfl ⟨rfl, rfl⟩ ⟨Nat.le_of_ble_eq_true rfl, Nat.le_of_ble_eq_true rfl⟩ rfl (Nat.le_of_ble_eq_true rfl) ⟨Nat.le_of_ble_eq_true rfl, Nat.le_of_ble_eq_true rfl⟩ ?_
  refine v_chk hX dX7_key_11 q865 cl_10 (plB_at (hP.2.1.day hw) (hb)) ?_
  refine v_getM hX dX7_key_14 hg in_X12 cl_10 2 (by decide) q980 (fun _ h => h) (plB_at (hP.2.1.day hw) (hb)) rfl ?_
  exact v_iret hX dX7_key_17 hR (Nat.le_of_ble_eq_true rfl) (Nat.le_of_ble_eq_true rfl) (⟨rfl, rfl⟩)
theorem c2_X4_isBetter : CG yX4_isBetter cX4_isBetter 5 (some .boolean) 3 := ⟨q839, q145, q841, by decide +kernel⟩
theorem mX4_isBetter4 {Γ : Gm} {l : Launch} (hg : gC Γ) {G : Nat → Nat} {wB : Wd} {x : DS} {w : Wd} (hw : dW Γ G wB x w) {S : Sh} {P : Pl} (hP : dP Γ S P wB x) {a : Nat} (ha : w a = some (true, .inr (4, []))) {b o : Int32} (hb : vp_in b P.nb) (ho : vp_in o P.nb) : MRd Γ l yX4_isBetter (ws_ yX4_isBetter cX4_isBetter 5 (some .boolean)) (rl 7 0 0) [.ref a, .ref (G 19), .int b, .int o] w (.int (bi (0 < o - b ∨ (o - b = 0 ∧ b < o)))) := by
  refine M0.of (lv := [some (.ref a), some (.ref (G 19)), some (.int b), some (.int o), none]) (by decide) (Nat.le_of_ble_eq_true rfl) 1 rfl rfl ?_
  intro X hX hR hl hG hnm
  subst hl; subst hG
  refine v_aload_n hX dX4_isBetter_0 rfl ?_
  refine v_aload_n hX dX4_isBetter_1 rfl ?_
  refine v_iload_n hX dX4_isBetter_2 rfl ?_
  refine v_cFe hX rfl dX4_isBetter_3 hg q843 c2_X5_key (by decide +kernel) q853 (by decide +kernel) cl_4 ha (m2_X5_key) rfl ⟨rfl, rfl⟩ ⟨Nat.le_of_ble_eq_true rfl, Nat.le_of_ble_eq_true rfl⟩ rfl (Nat.le_of_ble_eq_true rfl) ⟨Nat.le_of_ble_eq_true rfl, Nat.le_of_ble_eq_true rfl⟩ ?_
  refine v_aload_n hX dX4_isBetter_8 rfl ?_
  refine v_aload_n hX dX4_isBetter_9 rfl ?_
  refine v_iload_n hX dX4_isBetter_10 rfl ?_
  refine v_cFe hX rfl dX4_isBetter_11 hg q843 c2_X5_key (by decide +kernel) q853 (by decide +kernel) cl_4 ha (m2_X5_key) rfl ⟨rfl, rfl⟩ ⟨Nat.le_of_ble_eq_true rfl, Nat.le_of_ble_eq_true rfl⟩ rfl (Nat.le_of_ble_eq_true rfl) ⟨Nat.le_of_ble_eq_true rfl, Nat.le_of_ble_eq_true rfl⟩ ?_
  refine v_isub hX dX4_isBetter_16 ?_
  refine v_istore (lv' := [_, _, _, _, _]) hX dX4_isBetter_17 (Nat.le_of_ble_eq_true rfl) rfl rfl ?_
  refine v_iload hX dX4_isBetter_19 rfl ?_
  refine v_if_gt (tgt := 34) hX dX4_isBetter_21 rfl (fun c_21 => ?_) (fun c_21 => ?_)
  · refine v_iconst hX dX4_isBetter_34 ki1 ?_
    refine v_goto (tgt := 39) hX dX4_isBetter_35 rfl ?_
    exact v_zret hX dX4_isBetter_39 hR (Nat.le_of_ble_eq_true rfl) (Nat.le_of_ble_eq_true rfl) (rfl) (⟨congrArg (fun z => some (Value.int z)) (Eq.symm (bi_t (Or.inl c_21))), rfl⟩)
  · refine v_iload hX dX4_isBetter_24 rfl ?_
    refine v_if_ne (tgt := 38) hX dX4_isBetter_26 rfl (fun c_26 => ?_) (fun c_26 => ?_)
    · refine v_iconst hX dX4_isBetter_38 ki0 ?_
      exact v_zret hX dX4_isBetter_39 hR (Nat.le_of_ble_eq_true rfl) (Nat.le_of_ble_eq_true rfl) (rfl) (⟨congrArg (fun z => some (Value.int z)) (Eq.symm (bi_f (fun h => h.elim c_21 (fun q => c_26 q.1)))), rfl⟩)
    · refine v_iload_n hX dX4_isBetter_29 rfl ?_
      refine v_iload_n hX dX4_isBetter_30 rfl ?_
      refine v_icmp_ge (tgt := 38) hX dX4_isBetter_31 rfl (fun c_31 => ?_) (fun c_31 => ?_)
      · refine v_iconst hX dX4_isBetter_38 ki0 ?_
        exact v_zret hX dX4_isBetter_39 hR (Nat.le_of_ble_eq_true rfl) (Nat.le_of_ble_eq_true rfl) (rfl) (⟨congrArg (fun z => some (Value.int z)) (Eq.symm (bi_f (fun h => h.elim c_21 (fun q => absurd q.2 (Int32.not_lt.mpr c_31))))), rfl⟩)
      · refine v_iconst hX dX4_isBetter_34 ki1 ?_
        refine v_goto (tgt := 39) hX dX4_isBetter_35 rfl ?_
        exact v_zret hX dX4_isBetter_39 hR (Nat.le_of_ble_eq_true rfl) (Nat.le_of_ble_eq_true rfl) (rfl) (⟨congrArg (fun z => some (Value.int z)) (Eq.symm (bi_t (Or.inr ⟨c_26, Int32.not_le.mp c_31⟩))), rfl⟩)
theorem mX4_isBetter5 {Γ : Gm} {l : Launch} (hg : gC Γ) {G : Nat → Nat} {wB : Wd} {x : DS} {w : Wd} (hw : dW Γ G wB x w) {S : Sh} {P : Pl} (hP : dP Γ S P wB x) {a : Nat} (ha : w a = some (true, .inr (5, []))) {b o : Int32} (hb : vp_in b P.nb) (ho : vp_in o P.nb) : MRd Γ l yX4_isBetter (ws_ yX4_isBetter cX4_isBetter 5 (some .boolean)) (rl 7 0 0) [.ref a, .ref (G 19), .int b, .int o] w (.int (bi (0 < (dy_old S P o - eG x 9 o) - (dy_old S P b - eG x 9 b) ∨ ((dy_old S P o - eG x 9 o) - (dy_old S P b - eG x 9 b) = 0 ∧ b < o)))) := by
  refine M0.of (lv := [some (.ref a), some (.ref (G 19)), some (.int b), some (.int o), none]) (by decide) (Nat.le_of_ble_eq_true rfl) 1 rfl rfl ?_
  intro X hX hR hl hG hnm
  subst hl; subst hG
  refine v_aload_n hX dX4_isBetter_0 rfl ?_
  refine v_aload_n hX dX4_isBetter_1 rfl ?_
  refine v_iload_n hX dX4_isBetter_2 rfl ?_
  refine v_cFe hX rfl dX4_isBetter_3 hg q843 c2_X6_key (by decide +kernel) q846 (by decide +kernel) cl_5 ha (mX6_key hg hw hP ho) rfl ⟨rfl, rfl⟩ ⟨Nat.le_of_ble_eq_true rfl, Nat.le_of_ble_eq_true rfl⟩ rfl (Nat.le_of_ble_eq_true rfl) ⟨Nat.le_of_ble_eq_true rfl, Nat.le_of_ble_eq_true rfl⟩ ?_
  refine v_aload_n hX dX4_isBetter_8 rfl ?_
  refine v_aload_n hX dX4_isBetter_9 rfl ?_
  refine v_iload_n hX dX4_isBetter_10 rfl ?_
  refine v_cFe hX rfl dX4_isBetter_11 hg q843 c2_X6_key (by decide +kernel) q846 (by decide +kernel) cl_5 ha (mX6_key hg hw hP hb) rfl ⟨rfl, rfl⟩ ⟨Nat.le_of_ble_eq_true rfl, Nat.le_of_ble_eq_true rfl⟩ rfl (Nat.le_of_ble_eq_true rfl) ⟨Nat.le_of_ble_eq_true rfl, Nat.le_of_ble_eq_true rfl⟩ ?_
  refine v_isub hX dX4_isBetter_16 ?_
  refine v_istore (lv' := [_, _, _, _, _]) hX dX4_isBetter_17 (Nat.le_of_ble_eq_true rfl) rfl rfl ?_
  refine v_iload hX dX4_isBetter_19 rfl ?_
  refine v_if_gt (tgt := 34) hX dX4_isBetter_21 rfl (fun c_21 => ?_) (fun c_21 => ?_)
  · refine v_iconst hX dX4_isBetter_34 ki1 ?_
    refine v_goto (tgt := 39) hX dX4_isBetter_35 rfl ?_
    exact v_zret hX dX4_isBetter_39 hR (Nat.le_of_ble_eq_true rfl) (Nat.le_of_ble_eq_true rfl) (rfl) (⟨congrArg (fun z => some (Value.int z)) (Eq.symm (bi_t (Or.inl c_21))), rfl⟩)
  · refine v_iload hX dX4_isBetter_24 rfl ?_
    refine v_if_ne (tgt := 38) hX dX4_isBetter_26 rfl (fun c_26 => ?_) (fun c_26 => ?_)
    · refine v_iconst hX dX4_isBetter_38 ki0 ?_
      exact v_zret hX dX4_isBetter_39 hR (Nat.le_of_ble_eq_true rfl) (Nat.le_of_ble_eq_true rfl) (rfl) (⟨congrArg (fun z => some (Value.int z)) (Eq.symm (bi_f (fun h => h.elim c_21 (fun q => c_26 q.1)))), rfl⟩)
    · refine v_iload_n hX dX4_isBetter_29 rfl ?_
      refine v_iload_n hX dX4_isBetter_30 rfl ?_
      refine v_icmp_ge (tgt := 38) hX dX4_isBetter_31 rfl (fun c_31 => ?_) (fun c_31 => ?_)
      · refine v_iconst hX dX4_isBetter_38 ki0 ?_
        exact v_zret hX dX4_isBetter_39 hR (Nat.le_of_ble_eq_true rfl) (Nat.le_of_ble_eq_true rfl) (rfl) (⟨congrArg (fun z => some (Value.int z)) (Eq.symm (bi_f (fun h => h.elim c_21 (fun q => absurd q.2 (Int32.not_lt.mpr c_31))))), rfl⟩)
      · refine v_iconst hX dX4_isBetter_34 ki1 ?_
        refine v_goto (tgt := 39) hX dX4_isBetter_35 rfl ?_
        exact v_zret hX dX4_isBetter_39 hR (Nat.le_of_ble_eq_true rfl) (Nat.le_of_ble_eq_true rfl) (rfl) (⟨congrArg (fun z => some (Value.int z)) (Eq.symm (bi_t (Or.inr ⟨c_26, Int32.not_le.mp c_31⟩))), rfl⟩)
theorem mX4_isBetter6 {Γ : Gm} {l : Launch} (hg : gC Γ) {G : Nat → Nat} {wB : Wd} {x : DS} {w : Wd} (hw : dW Γ G wB x w) {S : Sh} {P : Pl} (hP : dP Γ S P wB x) {a : Nat} (ha : w a = some (true, .inr (6, []))) {b o : Int32} (hb : vp_in b P.nb) (ho : vp_in o P.nb) : MRd Γ l yX4_isBetter (ws_ yX4_isBetter cX4_isBetter 5 (some .boolean)) (rl 7 0 0) [.ref a, .ref (G 19), .int b, .int o] w (.int (bi (0 < (P.bx o.toNatClampNeg).2.2 - (P.bx b.toNatClampNeg).2.2 ∨ ((P.bx o.toNatClampNeg).2.2 - (P.bx b.toNatClampNeg).2.2 = 0 ∧ b < o)))) := by
  refine M0.of (lv := [some (.ref a), some (.ref (G 19)), some (.int b), some (.int o), none]) (by decide) (Nat.le_of_ble_eq_true rfl) 1 rfl rfl ?_
  intro X hX hR hl hG hnm
  subst hl; subst hG
  refine v_aload_n hX dX4_isBetter_0 rfl ?_
  refine v_aload_n hX dX4_isBetter_1 rfl ?_
  refine v_iload_n hX dX4_isBetter_2 rfl ?_
  refine v_cFe hX rfl dX4_isBetter_3 hg q843 c2_X7_key (by decide +kernel) q859 (by decide +kernel) cl_6 ha (mX7_key hg hw hP ho) rfl ⟨rfl, rfl⟩ ⟨Nat.le_of_ble_eq_true rfl, Nat.le_of_ble_eq_true rfl⟩ rfl (Nat.le_of_ble_eq_true rfl) ⟨Nat.le_of_ble_eq_true rfl, Nat.le_of_ble_eq_true rfl⟩ ?_
  refine v_aload_n hX dX4_isBetter_8 rfl ?_
  refine v_aload_n hX dX4_isBetter_9 rfl ?_
  refine v_iload_n hX dX4_isBetter_10 rfl ?_
  refine v_cFe hX rfl dX4_isBetter_11 hg q843 c2_X7_key (by decide +kernel) q859 (by decide +kernel) cl_6 ha (mX7_key hg hw hP hb) rfl ⟨rfl, rfl⟩ ⟨Nat.le_of_ble_eq_true rfl, Nat.le_of_ble_eq_true rfl⟩ rfl (Nat.le_of_ble_eq_true rfl) ⟨Nat.le_of_ble_eq_true rfl, Nat.le_of_ble_eq_true rfl⟩ ?_
  refine v_isub hX dX4_isBetter_16 ?_
  refine v_istore (lv' := [_, _, _, _, _]) hX dX4_isBetter_17 (Nat.le_of_ble_eq_true rfl) rfl rfl ?_
  refine v_iload hX dX4_isBetter_19 rfl ?_
  refine v_if_gt (tgt := 34) hX dX4_isBetter_21 rfl (fun c_21 => ?_) (fun c_21 => ?_)
  · refine v_iconst hX dX4_isBetter_34 ki1 ?_
    refine v_goto (tgt := 39) hX dX4_isBetter_35 rfl ?_
    exact v_zret hX dX4_isBetter_39 hR (Nat.le_of_ble_eq_true rfl) (Nat.le_of_ble_eq_true rfl) (rfl) (⟨congrArg (fun z => some (Value.int z)) (Eq.symm (bi_t (Or.inl c_21))), rfl⟩)
  · refine v_iload hX dX4_isBetter_24 rfl ?_
    refine v_if_ne (tgt := 38) hX dX4_isBetter_26 rfl (fun c_26 => ?_) (fun c_26 => ?_)
    · refine v_iconst hX dX4_isBetter_38 ki0 ?_
      exact v_zret hX dX4_isBetter_39 hR (Nat.le_of_ble_eq_true rfl) (Nat.le_of_ble_eq_true rfl) (rfl) (⟨congrArg (fun z => some (Value.int z)) (Eq.symm (bi_f (fun h => h.elim c_21 (fun q => c_26 q.1)))), rfl⟩)
    · refine v_iload_n hX dX4_isBetter_29 rfl ?_
      refine v_iload_n hX dX4_isBetter_30 rfl ?_
      refine v_icmp_ge (tgt := 38) hX dX4_isBetter_31 rfl (fun c_31 => ?_) (fun c_31 => ?_)
      · refine v_iconst hX dX4_isBetter_38 ki0 ?_
        exact v_zret hX dX4_isBetter_39 hR (Nat.le_of_ble_eq_true rfl) (Nat.le_of_ble_eq_true rfl) (rfl) (⟨congrArg (fun z => some (Value.int z)) (Eq.symm (bi_f (fun h => h.elim c_21 (fun q => absurd q.2 (Int32.not_lt.mpr c_31))))), rfl⟩)
      · refine v_iconst hX dX4_isBetter_34 ki1 ?_
        refine v_goto (tgt := 39) hX dX4_isBetter_35 rfl ?_
        exact v_zret hX dX4_isBetter_39 hR (Nat.le_of_ble_eq_true rfl) (Nat.le_of_ble_eq_true rfl) (rfl) (⟨congrArg (fun z => some (Value.int z)) (Eq.symm (bi_t (Or.inr ⟨c_26, Int32.not_le.mp c_31⟩))), rfl⟩)
theorem m3_isBetter {Γ : Gm} {l : Launch} (hg : gC Γ) {G : Nat → Nat} {wB : Wd} {x : DS} {w : Wd} (hw : dW Γ G wB x w) {S : Sh} {P : Pl} (hP : dP Γ S P wB x) (ha : wB (x.2.1 23) = some (true, .inr (pC P.po, []))) {b o : Int32} (hb : vp_in b P.nb) (ho : vp_in o P.nb) : MRd Γ l yX4_isBetter (ws_ yX4_isBetter cX4_isBetter 5 (some .boolean)) (rl 7 0 0) [.ref (x.2.1 23), .ref (G 19), .int b, .int o] w (.int (bi (dy_bet S P x b o))) := by
  have ha := hw.rd ha
  by_cases h0 : P.po = 0
  · rw [show pC P.po = 4 from if_pos h0] at ha
    have := mX4_isBetter4 (l := l) hg hw hP ha hb ho
    simpa only [dy_bet, dy_key, if_pos h0] using this
  · by_cases h1 : P.po = 1
    · rw [show pC P.po = 5 by unfold pC; rw [if_neg h0, if_pos h1]] at ha
      have := mX4_isBetter5 (l := l) hg hw hP ha hb ho
      simpa only [dy_bet, dy_key, if_neg h0, if_pos h1] using this
    · rw [show pC P.po = 6 by unfold pC; rw [if_neg h0, if_neg h1]] at ha
      have := mX4_isBetter6 (l := l) hg hw hP ha hb ho
      simpa only [dy_bet, dy_key, if_neg h0, if_neg h1] using this
theorem v_isB {X : Cx} {w wB : Wd} {k n pc nL index count : Nat} {lv : List (Option Value)} {rest : List Value} {cc : ByteArray} {own : String} {RM : Room} {G : Nat → Nat} {x : DS} {S : Sh} {P : Pl} (hX : OK X cc own nL RM) (hnl : lv.length = nL) (hd : decode cc pc = .ok (.invokeinterface index count, 5)) (hg : gC (xG X)) (q1 : Cond.methodLink own index yX4_isBetter ∈ lw_all) (hw : dW (xG X) G wB x w) (hP : dP (xG X) S P wB x) (ha : wB (x.2.1 23) = some (true, .inr (pC P.po, []))) {b o : Int32} (hb : vp_in b P.nb) (ho : vp_in o P.nb) (hR : 7 + 1 ≤ RM.frames ∧ 8 + (5 + 11) + 60 * 7 ≤ RM.locals) (hc8 : (rest.map fun v => v.category).sum ≤ 8) (hf : k ≤ RM.cells ∧ n ≤ RM.slots) (kk : V X w k n (pc + 5) lv (.int (bi (dy_bet S P x b o)) :: rest)) : V X w k n pc lv (.int o :: .int b :: .ref (G 19) :: .ref (x.2.1 23) :: rest) := by
  have hM := m3_isBetter (l := xl X) hg hw hP ha hb ho
  have hz := hw.rd ha
  by_cases h0 : P.po = 0
  · rw [show pC P.po = 4 from if_pos h0] at hz
    exact v_cDe (av := [.ref (G 19), .int b, .int o]) hX hnl hd hg q1 c2_X4_isBetter (by decide +kernel) (by decide +kernel) cl_4 hz hM rfl ⟨rfl, rfl⟩ hR rfl hc8 hf kk
  · by_cases h1 : P.po = 1
    · rw [show pC P.po = 5 by unfold pC; rw [if_neg h0, if_pos h1]] at hz
      exact v_cDe (av := [.ref (G 19), .int b, .int o]) hX hnl hd hg q1 c2_X4_isBetter (by decide +kernel) (by decide +kernel) cl_5 hz hM rfl ⟨rfl, rfl⟩ hR rfl hc8 hf kk
    · rw [show pC P.po = 6 by unfold pC; rw [if_neg h0, if_neg h1]] at hz
      exact v_cDe (av := [.ref (G 19), .int b, .int o]) hX hnl hd hg q1 c2_X4_isBetter (by decide +kernel) (by decide +kernel) cl_6 hz hM rfl ⟨rfl, rfl⟩ hR rfl hc8 hf kk
