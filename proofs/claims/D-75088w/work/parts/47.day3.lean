/-! the day: loops that read -/
set_option maxRecDepth 100000
theorem cf_X3_shelved : CF RX3 yX3_shelved cX3_shelved 3 (some .int) 0 := ⟨q877, q878, q144, q879, by decide +kernel⟩
theorem mX3_shelved {Γ : Gm} {l : Launch} (hg : gC Γ) {G : Nat → Nat} {wB : Wd} {x : DS} {w : Wd} (hw : dW Γ G wB x w) {S : Sh} {P : Pl} (hP : dP Γ S P wB x)  : MRd Γ l yX3_shelved (ws_ yX3_shelved cX3_shelved 3 (some .int)) (rl 0 0 0) [.ref (G 19)] w (.int (ct (fun b => ¬ eG x 11 (nI b) = 0) P.nb)) := by
  refine M0.of (lv := [some (.ref (G 19)), none, none]) (by decide) (Nat.le_of_ble_eq_true rfl) 2 rfl rfl ?_
  intro X hX hR hl hG hnm
  subst hl; subst hG
  refine v_iconst hX dX3_shelved_0 ki0 ?_
  refine v_istore_n (lv' := [_, _, _]) hX dX3_shelved_1 (Nat.le_of_ble_eq_true rfl) rfl rfl ?_
  refine v_iconst hX dX3_shelved_2 ki0 ?_
  refine v_istore_n (lv' := [_, _, _]) hX dX3_shelved_3 (Nat.le_of_ble_eq_true rfl) rfl rfl ?_
  refine loop_up (P.nb) (fun i => V X w 0 0 4 [some (.ref (G 19)), some (.int (ct (fun b => ¬ eG x 11 (nI b) = 0) (i))), some (.int (nI (i)))] []) ?_ ?_ 0 (Nat.zero_le _)
  · skip
    refine v_iload_n hX dX3_shelved_4 rfl ?_
    refine v_aload_n hX dX3_shelved_5 rfl ?_
    refine dv_get hX dX3_shelved_6 hw 21 (by decide) q628 rfl ?_
    refine v_icmp_ge_t (tgt := 35) hX dX3_shelved_9 rfl (ge_x hP.2.2.2.1 rfl) ?_
    refine v_iload_n hX dX3_shelved_35 rfl ?_
    exact v_iret hX dX3_shelved_36 hR (Nat.le_of_ble_eq_true rfl) (Nat.le_of_ble_eq_true rfl) (⟨rfl, rfl⟩)
  · intro i hi ih
    have ih : V X w 0 0 4 [some (.ref (G 19)), some (.int (ct (fun b => ¬ eG x 11 (nI b) = 0) (i + 1))), some (.int (nI (i + 1)))] [] := ih
    refine v_iload_n hX dX3_shelved_4 rfl ?_
    refine v_aload_n hX dX3_shelved_5 rfl ?_
    refine dv_get hX dX3_shelved_6 hw 21 (by decide) q628 rfl ?_
    refine v_icmp_ge_f (tgt := 35) hX dX3_shelved_9 rfl (ge_s hP.2.2.2.1 hi (Nat.le_trans hP.2.2.2.2 (by decide))) ?_
    refine v_iload_n hX dX3_shelved_12 rfl ?_
    refine v_aload_n hX dX3_shelved_13 rfl ?_
    refine dv_get hX dX3_shelved_14 hw 11 (by decide) q612 rfl ?_
    refine v_iload_n hX dX3_shelved_17 rfl ?_
    refine dv_zald hX dX3_shelved_18 hw (by decide) rfl rfl (vnI (Nat.lt_of_lt_of_le hi hP.2.2.2.2) (by decide)) ?_
    refine v_if_eq (tgt := 26) hX dX3_shelved_19 rfl (fun c_19 => ?_) (fun c_19 => ?_)
    · refine v_iconst hX dX3_shelved_26 ki0 ?_
      refine v_iadd hX dX3_shelved_27 ?_
      refine v_istore_n (lv' := [_, _, _]) hX dX3_shelved_28 (Nat.le_of_ble_eq_true rfl) rfl rfl ?_
      refine v_iinc (lv' := [_, _, _]) hX dX3_shelved_29 rfl ki1 rfl rfl ?_
      refine v_goto (tgt := 4) hX dX3_shelved_32 rfl ?_
      exact V.at rfl (by rw [nI_1, ct, if_neg (fun h => h c_19), Int32.add_zero]) rfl ih
    · refine v_iconst hX dX3_shelved_22 ki1 ?_
      refine v_goto (tgt := 27) hX dX3_shelved_23 rfl ?_
      refine v_iadd hX dX3_shelved_27 ?_
      refine v_istore_n (lv' := [_, _, _]) hX dX3_shelved_28 (Nat.le_of_ble_eq_true rfl) rfl rfl ?_
      refine v_iinc (lv' := [_, _, _]) hX dX3_shelved_29 rfl ki1 rfl rfl ?_
      refine v_goto (tgt := 4) hX dX3_shelved_32 rfl ?_
      exact V.at rfl (by rw [nI_1, ct, if_pos c_19]) rfl ih
theorem cf_X3_inRoom : CF RX3 yX3_inRoom cX3_inRoom 3 (some .int) 0 := ⟨q1697, q1698, q144, q1699, by decide +kernel⟩
theorem mX3_inRoom {Γ : Gm} {l : Launch} (hg : gC Γ) {G : Nat → Nat} {wB : Wd} {x : DS} {w : Wd} (hw : dW Γ G wB x w) {S : Sh} {P : Pl} (hP : dP Γ S P wB x)  : MRd Γ l yX3_inRoom (ws_ yX3_inRoom cX3_inRoom 3 (some .int)) (rl 0 0 0) [.ref (G 19)] w (.int (ct (fun b => eG x 0 (nI b) = 2 ∧ eG x 11 (nI b) = 0) P.nb)) := by
  refine M0.of (lv := [some (.ref (G 19)), none, none]) (by decide) (Nat.le_of_ble_eq_true rfl) 2 rfl rfl ?_
  intro X hX hR hl hG hnm
  subst hl; subst hG
  refine v_iconst hX dX3_inRoom_0 ki0 ?_
  refine v_istore_n (lv' := [_, _, _]) hX dX3_inRoom_1 (Nat.le_of_ble_eq_true rfl) rfl rfl ?_
  refine v_iconst hX dX3_inRoom_2 ki0 ?_
  refine v_istore_n (lv' := [_, _, _]) hX dX3_inRoom_3 (Nat.le_of_ble_eq_true rfl) rfl rfl ?_
  refine loop_up (P.nb) (fun i => V X w 0 0 4 [some (.ref (G 19)), some (.int (ct (fun b => eG x 0 (nI b) = 2 ∧ eG x 11 (nI b) = 0) (i))), some (.int (nI (i)))] []) ?_ ?_ 0 (Nat.zero_le _)
  · skip
    refine v_iload_n hX dX3_inRoom_4 rfl ?_
    refine v_aload_n hX dX3_inRoom_5 rfl ?_
    refine dv_get hX dX3_inRoom_6 hw 21 (by decide) q628 rfl ?_
    refine v_icmp_ge_t (tgt := 45) hX dX3_inRoom_9 rfl (ge_x hP.2.2.2.1 rfl) ?_
    refine v_iload_n hX dX3_inRoom_45 rfl ?_
    exact v_iret hX dX3_inRoom_46 hR (Nat.le_of_ble_eq_true rfl) (Nat.le_of_ble_eq_true rfl) (⟨rfl, rfl⟩)
  · intro i hi ih
    have ih : V X w 0 0 4 [some (.ref (G 19)), some (.int (ct (fun b => eG x 0 (nI b) = 2 ∧ eG x 11 (nI b) = 0) (i + 1))), some (.int (nI (i + 1)))] [] := ih
    refine v_iload_n hX dX3_inRoom_4 rfl ?_
    refine v_aload_n hX dX3_inRoom_5 rfl ?_
    refine dv_get hX dX3_inRoom_6 hw 21 (by decide) q628 rfl ?_
    refine v_icmp_ge_f (tgt := 45) hX dX3_inRoom_9 rfl (ge_s hP.2.2.2.1 hi (Nat.le_trans hP.2.2.2.2 (by decide))) ?_
    refine v_iload_n hX dX3_inRoom_12 rfl ?_
    refine v_aload_n hX dX3_inRoom_13 rfl ?_
    refine dv_get hX dX3_inRoom_14 hw 0 (by decide) q591 rfl ?_
    refine v_iload_n hX dX3_inRoom_17 rfl ?_
    refine dv_iald hX dX3_inRoom_18 hw (by decide) rfl rfl (vnI (Nat.lt_of_lt_of_le hi hP.2.2.2.2) (by decide)) ?_
    refine v_iconst hX dX3_inRoom_19 ki2 ?_
    refine v_icmp_ne (tgt := 36) hX dX3_inRoom_20 rfl (fun c_20 => ?_) (fun c_20 => ?_)
    · refine v_iconst hX dX3_inRoom_36 ki0 ?_
      refine v_iadd hX dX3_inRoom_37 ?_
      refine v_istore_n (lv' := [_, _, _]) hX dX3_inRoom_38 (Nat.le_of_ble_eq_true rfl) rfl rfl ?_
      refine v_iinc (lv' := [_, _, _]) hX dX3_inRoom_39 rfl ki1 rfl rfl ?_
      refine v_goto (tgt := 4) hX dX3_inRoom_42 rfl ?_
      exact V.at rfl (by rw [nI_1, ct, if_neg (fun h => c_20 h.1), Int32.add_zero]) rfl ih
    · refine v_aload_n hX dX3_inRoom_23 rfl ?_
      refine dv_get hX dX3_inRoom_24 hw 11 (by decide) q612 rfl ?_
      refine v_iload_n hX dX3_inRoom_27 rfl ?_
      refine dv_zald hX dX3_inRoom_28 hw (by decide) rfl rfl (vnI (Nat.lt_of_lt_of_le hi hP.2.2.2.2) (by decide)) ?_
      refine v_if_ne (tgt := 36) hX dX3_inRoom_29 rfl (fun c_29 => ?_) (fun c_29 => ?_)
      · refine v_iconst hX dX3_inRoom_36 ki0 ?_
        refine v_iadd hX dX3_inRoom_37 ?_
        refine v_istore_n (lv' := [_, _, _]) hX dX3_inRoom_38 (Nat.le_of_ble_eq_true rfl) rfl rfl ?_
        refine v_iinc (lv' := [_, _, _]) hX dX3_inRoom_39 rfl ki1 rfl rfl ?_
        refine v_goto (tgt := 4) hX dX3_inRoom_42 rfl ?_
        exact V.at rfl (by rw [nI_1, ct, if_neg (fun h => c_29 h.2), Int32.add_zero]) rfl ih
      · refine v_iconst hX dX3_inRoom_32 ki1 ?_
        refine v_goto (tgt := 37) hX dX3_inRoom_33 rfl ?_
        refine v_iadd hX dX3_inRoom_37 ?_
        refine v_istore_n (lv' := [_, _, _]) hX dX3_inRoom_38 (Nat.le_of_ble_eq_true rfl) rfl rfl ?_
        refine v_iinc (lv' := [_, _, _]) hX dX3_inRoom_39 rfl ki1 rfl rfl ?_
        refine v_goto (tgt := 4) hX dX3_inRoom_42 rfl ?_
        exact V.at rfl (by rw [nI_1, ct, if_pos ⟨c_20, c_29⟩]) rfl ih
theorem cf_X3_nextBatch : CF RX3 yX3_nextBatch cX3_nextBatch 3 (some .int) 1 := ⟨q886, qs14, q144, q887, by decide +kernel⟩
theorem mX3_nextBatch {Γ : Gm} {l : Launch} (hg : gC Γ) {G : Nat → Nat} {wB : Wd} {x : DS} {w : Wd} (hw : dW Γ G wB x w) {S : Sh} {P : Pl} (hP : dP Γ S P wB x) (t : Int32) : MRd Γ l yX3_nextBatch (ws_ yX3_nextBatch cX3_nextBatch 3 (some .int)) (rl 3 0 0) [.ref (G 19), .int t] w (.int (ff (fun b => eG x 0 (nI b) = 0 ∧ (P.bx (nI b).toNatClampNeg).2.1 ≤ t) P.nb)) := by
  refine M0.of (lv := [some (.ref (G 19)), some (.int t), none]) (by decide) (Nat.le_of_ble_eq_true rfl) 1 rfl rfl ?_
  intro X hX hR hl hG hnm
  subst hl; subst hG
  refine v_iconst hX dX3_nextBatch_0 ki0 ?_
  refine v_istore_n (lv' := [_, _, _]) hX dX3_nextBatch_1 (Nat.le_of_ble_eq_true rfl) rfl rfl ?_
  refine loop_up (P.nb) (fun i => (∀ j, j < i → ¬ (eG x 0 (nI j) = 0 ∧ (P.bx (nI j).toNatClampNeg).2.1 ≤ t)) → V X w 0 0 2 [some (.ref (G 19)), some (.int t), some (.int (nI (i)))] []) ?_ ?_ 0 (Nat.zero_le _) (fun j hj => absurd hj (Nat.not_lt_zero j))
  · intro hI
    refine v_iload_n hX dX3_nextBatch_2 rfl ?_
    refine v_aload_n hX dX3_nextBatch_3 rfl ?_
    refine dv_get hX dX3_nextBatch_4 hw 21 (by decide) q628 rfl ?_
    refine v_icmp_ge_t (tgt := 48) hX dX3_nextBatch_7 rfl (ge_x hP.2.2.2.1 rfl) ?_
    refine v_iconst hX dX3_nextBatch_48 kim1 ?_
    exact v_iret hX dX3_nextBatch_49 hR (Nat.le_of_ble_eq_true rfl) (Nat.le_of_ble_eq_true rfl) (⟨congrArg (fun z => some (Value.int z)) (Eq.symm (ff_none hI)), rfl⟩)
  · intro i hi ih hI
    have ih : (∀ j, j < i + 1 → ¬ (eG x 0 (nI j) = 0 ∧ (P.bx (nI j).toNatClampNeg).2.1 ≤ t)) → V X w 0 0 2 [some (.ref (G 19)), some (.int t), some (.int (nI (i + 1)))] [] := ih
    refine v_iload_n hX dX3_nextBatch_2 rfl ?_
    refine v_aload_n hX dX3_nextBatch_3 rfl ?_
    refine dv_get hX dX3_nextBatch_4 hw 21 (by decide) q628 rfl ?_
    refine v_icmp_ge_f (tgt := 48) hX dX3_nextBatch_7 rfl (ge_s hP.2.2.2.1 hi (Nat.le_trans hP.2.2.2.2 (by decide))) ?_
    refine v_aload_n hX dX3_nextBatch_10 rfl ?_
    refine dv_get hX dX3_nextBatch_11 hw 0 (by decide) q591 rfl ?_
    refine v_iload_n hX dX3_nextBatch_14 rfl ?_
    refine dv_iald hX dX3_nextBatch_15 hw (by decide) rfl rfl (vnI (Nat.lt_of_lt_of_le hi hP.2.2.2.2) (by decide)) ?_
    refine v_if_ne (tgt := 42) hX dX3_nextBatch_16 rfl (fun c_16 => ?_) (fun c_16 => ?_)
    · refine v_iinc (lv' := [_, _, _]) hX dX3_nextBatch_42 rfl ki1 rfl rfl ?_
      refine v_goto (tgt := 2) hX dX3_nextBatch_45 rfl ?_
      exact V.at rfl (by rw [nI_1]) rfl (ih (lt_s hI (fun h => c_16 h.1)))
    · refine v_aload_n hX dX3_nextBatch_19 rfl ?_
      refine dv_get hX dX3_nextBatch_20 hw 22 (by decide) q629 rfl ?_
      refine v_getM hX dX3_nextBatch_23 hg in_X2 cl_2 3 (by decide) q536 (fun _ h => h) (hP.2.1.day hw).1 rfl ?_
      refine v_iload_n hX dX3_nextBatch_26 rfl ?_
      refine v_cVe hX rfl dX3_nextBatch_27 q888 c2_J2_get q788 rfl cl_11 (hP.2.1.day hw).2.2.1 (m3_get (hP.2.1.day hw) _ (vnI hi (Nat.le_trans hP.2.2.2.2 (by decide)))) rfl ⟨rfl, rfl⟩ ⟨Nat.le_of_ble_eq_true rfl, Nat.le_of_ble_eq_true rfl⟩ rfl (Nat.le_of_ble_eq_true rfl) ⟨Nat.le_of_ble_eq_true rfl, Nat.le_of_ble_eq_true rfl⟩ ?_
      refine v_chk hX dX3_nextBatch_30 q889 cl_10 (plB_at (hP.2.1.day hw) (vnI hi (Nat.le_trans hP.2.2.2.2 (by decide)))) ?_
      refine v_getM hX dX3_nextBatch_33 hg in_X12 cl_10 1 (by decide) q978 (fun _ h => h) (plB_at (hP.2.1.day hw) (vnI hi (Nat.le_trans hP.2.2.2.2 (by decide)))) rfl ?_
      refine v_iload_n hX dX3_nextBatch_36 rfl ?_
      refine v_icmp_gt (tgt := 42) hX dX3_nextBatch_37 rfl (fun c_37 => ?_) (fun c_37 => ?_)
      · refine v_iinc (lv' := [_, _, _]) hX dX3_nextBatch_42 rfl ki1 rfl rfl ?_
        refine v_goto (tgt := 2) hX dX3_nextBatch_45 rfl ?_
        exact V.at rfl (by rw [nI_1]) rfl (ih (lt_s hI (fun h => absurd h.2 (Int32.not_le.mpr c_37))))
      · refine v_iload_n hX dX3_nextBatch_40 rfl ?_
        exact v_iret hX dX3_nextBatch_41 hR (Nat.le_of_ble_eq_true rfl) (Nat.le_of_ble_eq_true rfl) (⟨congrArg (fun z => some (Value.int z)) (Eq.symm (ff_some (Nat.le_trans hP.2.2.2.2 (by decide)) hi hI ⟨c_16, Int32.not_lt.mp c_37⟩)), rfl⟩)
theorem cf_X3_isOver : CF RX3 yX3_isOver cX3_isOver 2 (some .boolean) 0 := ⟨q764, qs3, q144, q765, by decide +kernel⟩
theorem mX3_isOver {Γ : Gm} {l : Launch} (hg : gC Γ) {G : Nat → Nat} {wB : Wd} {x : DS} {w : Wd} (hw : dW Γ G wB x w) {S : Sh} {P : Pl} (hP : dP Γ S P wB x)  : MRd Γ l yX3_isOver (ws_ yX3_isOver cX3_isOver 2 (some .boolean)) (rl 0 0 0) [.ref (G 19)] w (.int (bi (∀ b, b < P.nb → 4 ≤ eG x 0 (nI b)))) := by
  refine M0.of (lv := [some (.ref (G 19)), none]) (by decide) (Nat.le_of_ble_eq_true rfl) 1 rfl rfl ?_
  intro X hX hR hl hG hnm
  subst hl; subst hG
  refine v_iconst hX dX3_isOver_0 ki0 ?_
  refine v_istore_n (lv' := [_, _]) hX dX3_isOver_1 (Nat.le_of_ble_eq_true rfl) rfl rfl ?_
  refine loop_up (P.nb) (fun i => (∀ j, j < i → 4 ≤ eG x 0 (nI j)) → V X w 0 0 2 [some (.ref (G 19)), some (.int (nI (i)))] []) ?_ ?_ 0 (Nat.zero_le _) (fun j hj => absurd hj (Nat.not_lt_zero j))
  · intro hI
    refine v_iload_n hX dX3_isOver_2 rfl ?_
    refine v_aload_n hX dX3_isOver_3 rfl ?_
    refine dv_get hX dX3_isOver_4 hw 21 (by decide) q628 rfl ?_
    refine v_icmp_ge_t (tgt := 28) hX dX3_isOver_7 rfl (ge_x hP.2.2.2.1 rfl) ?_
    refine v_iconst hX dX3_isOver_28 ki1 ?_
    exact v_zret hX dX3_isOver_29 hR (Nat.le_of_ble_eq_true rfl) (Nat.le_of_ble_eq_true rfl) (rfl) (⟨congrArg (fun z => some (Value.int z)) (Eq.symm (bi_t hI)), rfl⟩)
  · intro i hi ih hI
    have ih : (∀ j, j < i + 1 → 4 ≤ eG x 0 (nI j)) → V X w 0 0 2 [some (.ref (G 19)), some (.int (nI (i + 1)))] [] := ih
    refine v_iload_n hX dX3_isOver_2 rfl ?_
    refine v_aload_n hX dX3_isOver_3 rfl ?_
    refine dv_get hX dX3_isOver_4 hw 21 (by decide) q628 rfl ?_
    refine v_icmp_ge_f (tgt := 28) hX dX3_isOver_7 rfl (ge_s hP.2.2.2.1 hi (Nat.le_trans hP.2.2.2.2 (by decide))) ?_
    refine v_aload_n hX dX3_isOver_10 rfl ?_
    refine dv_get hX dX3_isOver_11 hw 0 (by decide) q591 rfl ?_
    refine v_iload_n hX dX3_isOver_14 rfl ?_
    refine dv_iald hX dX3_isOver_15 hw (by decide) rfl rfl (vnI (Nat.lt_of_lt_of_le hi hP.2.2.2.2) (by decide)) ?_
    refine v_iconst hX dX3_isOver_16 ki4 ?_
    refine v_icmp_ge (tgt := 22) hX dX3_isOver_17 rfl (fun c_17 => ?_) (fun c_17 => ?_)
    · refine v_iinc (lv' := [_, _]) hX dX3_isOver_22 rfl ki1 rfl rfl ?_
      refine v_goto (tgt := 2) hX dX3_isOver_25 rfl ?_
      exact V.at rfl (by rw [nI_1]) rfl (ih (lt_s hI c_17))
    · refine v_iconst hX dX3_isOver_20 ki0 ?_
      exact v_zret hX dX3_isOver_21 hR (Nat.le_of_ble_eq_true rfl) (Nat.le_of_ble_eq_true rfl) (rfl) (⟨congrArg (fun z => some (Value.int z)) (Eq.symm (bi_f (fun h => c_17 (h i hi)))), rfl⟩)
theorem cf_X3_countOf : CF RX3 yX3_countOf cX3_countOf 4 (some .int) 1 := ⟨q1049, q1050, q144, q1051, by decide +kernel⟩
theorem mX3_countOf {Γ : Gm} {l : Launch} (hg : gC Γ) {G : Nat → Nat} {wB : Wd} {x : DS} {w : Wd} (hw : dW Γ G wB x w) {S : Sh} {P : Pl} (hP : dP Γ S P wB x) (u : Int32) : MRd Γ l yX3_countOf (ws_ yX3_countOf cX3_countOf 4 (some .int)) (rl 4 0 0) [.ref (G 19), .int u] w (.int (ct (fun b => dy_state S P x (nI b) = u) P.nb)) := by
  refine M0.of (lv := [some (.ref (G 19)), some (.int u), none, none]) (by decide) (Nat.le_of_ble_eq_true rfl) 2 rfl rfl ?_
  intro X hX hR hl hG hnm
  subst hl; subst hG
  refine v_iconst hX dX3_countOf_0 ki0 ?_
  refine v_istore_n (lv' := [_, _, _, _]) hX dX3_countOf_1 (Nat.le_of_ble_eq_true rfl) rfl rfl ?_
  refine v_iconst hX dX3_countOf_2 ki0 ?_
  refine v_istore_n (lv' := [_, _, _, _]) hX dX3_countOf_3 (Nat.le_of_ble_eq_true rfl) rfl rfl ?_
  refine loop_up (P.nb) (fun i => V X w 0 0 4 [some (.ref (G 19)), some (.int u), some (.int (ct (fun b => dy_state S P x (nI b) = u) (i))), some (.int (nI (i)))] []) ?_ ?_ 0 (Nat.zero_le _)
  · skip
    refine v_iload_n hX dX3_countOf_4 rfl ?_
    refine v_aload_n hX dX3_countOf_5 rfl ?_
    refine dv_get hX dX3_countOf_6 hw 21 (by decide) q628 rfl ?_
    refine v_icmp_ge_t (tgt := 35) hX dX3_countOf_9 rfl (ge_x hP.2.2.2.1 rfl) ?_
    refine v_iload_n hX dX3_countOf_35 rfl ?_
    exact v_iret hX dX3_countOf_36 hR (Nat.le_of_ble_eq_true rfl) (Nat.le_of_ble_eq_true rfl) (⟨rfl, rfl⟩)
  · intro i hi ih
    have ih : V X w 0 0 4 [some (.ref (G 19)), some (.int u), some (.int (ct (fun b => dy_state S P x (nI b) = u) (i + 1))), some (.int (nI (i + 1)))] [] := ih
    refine v_iload_n hX dX3_countOf_4 rfl ?_
    refine v_aload_n hX dX3_countOf_5 rfl ?_
    refine dv_get hX dX3_countOf_6 hw 21 (by decide) q628 rfl ?_
    refine v_icmp_ge_f (tgt := 35) hX dX3_countOf_9 rfl (ge_s hP.2.2.2.1 hi (Nat.le_trans hP.2.2.2.2 (by decide))) ?_
    refine v_iload_n hX dX3_countOf_12 rfl ?_
    refine v_aload_n hX dX3_countOf_13 rfl ?_
    refine v_iload_n hX dX3_countOf_14 rfl ?_
    refine dv_callR hX rfl dX3_countOf_15 q1052 cf_X3_state hw (mX3_state hg hw hP _ (vnI hi (Nat.le_trans hP.2.2.2.2 (by decide)))) rfl ⟨rfl, rfl⟩ ⟨Nat.le_of_ble_eq_true rfl, Nat.le_of_ble_eq_true rfl⟩ rfl (Nat.le_of_ble_eq_true rfl) ⟨Nat.le_of_ble_eq_true rfl, Nat.le_of_ble_eq_true rfl⟩ ?_
    refine v_iload_n hX dX3_countOf_18 rfl ?_
    refine v_icmp_ne (tgt := 26) hX dX3_countOf_19 rfl (fun c_19 => ?_) (fun c_19 => ?_)
    · refine v_iconst hX dX3_countOf_26 ki0 ?_
      refine v_iadd hX dX3_countOf_27 ?_
      refine v_istore_n (lv' := [_, _, _, _]) hX dX3_countOf_28 (Nat.le_of_ble_eq_true rfl) rfl rfl ?_
      refine v_iinc (lv' := [_, _, _, _]) hX dX3_countOf_29 rfl ki1 rfl rfl ?_
      refine v_goto (tgt := 4) hX dX3_countOf_32 rfl ?_
      exact V.at rfl (by rw [nI_1, ct, if_neg c_19, Int32.add_zero]) rfl ih
    · refine v_iconst hX dX3_countOf_22 ki1 ?_
      refine v_goto (tgt := 27) hX dX3_countOf_23 rfl ?_
      refine v_iadd hX dX3_countOf_27 ?_
      refine v_istore_n (lv' := [_, _, _, _]) hX dX3_countOf_28 (Nat.le_of_ble_eq_true rfl) rfl rfl ?_
      refine v_iinc (lv' := [_, _, _, _]) hX dX3_countOf_29 rfl ki1 rfl rfl ?_
      refine v_goto (tgt := 4) hX dX3_countOf_32 rfl ?_
      exact V.at rfl (by rw [nI_1, ct, if_pos c_19]) rfl ih
def dy_last (x : DS) : Nat → Int32
  | 0 => 0
  | n + 1 => dy_max (dy_last x n) (eG x 6 (nI n))
theorem cf_X3_lastEnd : CF RX3 yX3_lastEnd cX3_lastEnd 3 (some .int) 0 := ⟨q896, q897, q144, q898, by decide +kernel⟩
theorem mX3_lastEnd {Γ : Gm} {l : Launch} (hg : gC Γ) {G : Nat → Nat} {wB : Wd} {x : DS} {w : Wd} (hw : dW Γ G wB x w) {S : Sh} {P : Pl} (hP : dP Γ S P wB x)  : MRd Γ l yX3_lastEnd (ws_ yX3_lastEnd cX3_lastEnd 3 (some .int)) (rl 1 0 0) [.ref (G 19)] w (.int (dy_last x P.nb)) := by
  refine M0.of (lv := [some (.ref (G 19)), none, none]) (by decide) (Nat.le_of_ble_eq_true rfl) 2 rfl rfl ?_
  intro X hX hR hl hG hnm
  subst hl; subst hG
  refine v_iconst hX dX3_lastEnd_0 ki0 ?_
  refine v_istore_n (lv' := [_, _, _]) hX dX3_lastEnd_1 (Nat.le_of_ble_eq_true rfl) rfl rfl ?_
  refine v_iconst hX dX3_lastEnd_2 ki0 ?_
  refine v_istore_n (lv' := [_, _, _]) hX dX3_lastEnd_3 (Nat.le_of_ble_eq_true rfl) rfl rfl ?_
  refine loop_up (P.nb) (fun i => V X w 0 0 4 [some (.ref (G 19)), some (.int (dy_last x (i))), some (.int (nI (i)))] []) ?_ ?_ 0 (Nat.zero_le _)
  · skip
    refine v_iload_n hX dX3_lastEnd_4 rfl ?_
    refine v_aload_n hX dX3_lastEnd_5 rfl ?_
    refine dv_get hX dX3_lastEnd_6 hw 21 (by decide) q628 rfl ?_
    refine v_icmp_ge_t (tgt := 29) hX dX3_lastEnd_9 rfl (ge_x hP.2.2.2.1 rfl) ?_
    refine v_iload_n hX dX3_lastEnd_29 rfl ?_
    exact v_iret hX dX3_lastEnd_30 hR (Nat.le_of_ble_eq_true rfl) (Nat.le_of_ble_eq_true rfl) (⟨rfl, rfl⟩)
  · intro i hi ih
    have ih : V X w 0 0 4 [some (.ref (G 19)), some (.int (dy_last x (i + 1))), some (.int (nI (i + 1)))] [] := ih
    refine v_iload_n hX dX3_lastEnd_4 rfl ?_
    refine v_aload_n hX dX3_lastEnd_5 rfl ?_
    refine dv_get hX dX3_lastEnd_6 hw 21 (by decide) q628 rfl ?_
    refine v_icmp_ge_f (tgt := 29) hX dX3_lastEnd_9 rfl (ge_s hP.2.2.2.1 hi (Nat.le_trans hP.2.2.2.2 (by decide))) ?_
    refine v_iload_n hX dX3_lastEnd_12 rfl ?_
    refine v_aload_n hX dX3_lastEnd_13 rfl ?_
    refine dv_get hX dX3_lastEnd_14 hw 6 (by decide) q602 rfl ?_
    refine v_iload_n hX dX3_lastEnd_17 rfl ?_
    refine dv_iald hX dX3_lastEnd_18 hw (by decide) rfl rfl (vnI (Nat.lt_of_lt_of_le hi hP.2.2.2.2) (by decide)) ?_
    refine v_mmax hX rfl dX3_lastEnd_19 q826 (Nat.le_of_ble_eq_true rfl) (Nat.le_of_ble_eq_true rfl) ⟨Nat.le_of_ble_eq_true rfl, Nat.le_of_ble_eq_true rfl⟩ ?_
    refine v_istore_n (lv' := [_, _, _]) hX dX3_lastEnd_22 (Nat.le_of_ble_eq_true rfl) rfl rfl ?_
    refine v_iinc (lv' := [_, _, _]) hX dX3_lastEnd_23 rfl ki1 rfl rfl ?_
    refine v_goto (tgt := 4) hX dX3_lastEnd_26 rfl ?_
    exact V.at rfl (by rw [nI_1, dy_last]) rfl ih
