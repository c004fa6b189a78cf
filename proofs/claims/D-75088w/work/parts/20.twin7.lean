/-! the twin: texts, walks -/
noncomputable section
set_option maxRecDepth 100000
theorem cf_X8_productHere : CF RX8 yX8_productHere cX8_productHere 2 (some .int) 0 := ⟨q2185, qs55, q150, q2186, by decide +kernel⟩
theorem mX8_productHere {Γ : Gm} {l : Launch} {G : Nat → Nat} {wB : Wd} {x : TS} {w : Wd} (hw : tW Γ G wB x w) (hr : tR x) : MRd Γ l yX8_productHere (ws_ yX8_productHere cX8_productHere 2 (some .int)) (rl 0 0 0) [.ref (G 61)] w (.int (tw_ph x)) := by
  refine M0.of (lv := [some (.ref (G 61)), none]) (by decide) (Nat.le_of_ble_eq_true rfl) 1 rfl rfl ?_
  intro X hX hR hl hG hnm
  subst hl; subst hG
  refine v_aload_n hX dX8_productHere_0 rfl ?_
  refine tv_getI hX dX8_productHere_1 hw 23 (by decide) rfl q1932 ?_
  refine v_iconst hX dX8_productHere_4 li1 ?_
  refine v_icmp_eq (tgt := 10) hX dX8_productHere_5 rfl (fun c_5 => ?_) (fun c_5 => ?_)
  · refine v_iconst hX dX8_productHere_10 li0 ?_
    refine v_istore_n (lv' := [_, _]) hX dX8_productHere_11 (Nat.le_of_ble_eq_true rfl) rfl rfl ?_
    refine loop_up (np x) (fun i => (∀ j, j < i → ¬ x.2.2.2 30 (nI j).toNatClampNeg = x.2.1 25) → V X w 0 0 12 [some (.ref (G 61)), some (.int (nI (i)))] []) ?_ ?_ 0 (Nat.zero_le _) (fun j hj => absurd hj (Nat.not_lt_zero j))
    · intro hI
      refine v_iload_n hX dX8_productHere_12 rfl ?_
      refine v_aload_n hX dX8_productHere_13 rfl ?_
      refine tv_getI hX dX8_productHere_14 hw 27 (by decide) rfl q1936 ?_
      refine v_icmp_ge_t (tgt := 42) hX dX8_productHere_17 rfl (ge_x hr.2.1 rfl) ?_
      refine v_iconst hX dX8_productHere_42 lim1 ?_
      exact v_iret hX dX8_productHere_43 hR (Nat.le_of_ble_eq_true rfl) (Nat.le_of_ble_eq_true rfl) (⟨congrArg (fun z => some (Value.int z)) (Eq.symm ((if_pos c_5).trans (ff_none hI))), rfl⟩)
    · intro i hi ih hI
      have ih : (∀ j, j < i + 1 → ¬ x.2.2.2 30 (nI j).toNatClampNeg = x.2.1 25) → V X w 0 0 12 [some (.ref (G 61)), some (.int (nI (i + 1)))] [] := ih
      refine v_iload_n hX dX8_productHere_12 rfl ?_
      refine v_aload_n hX dX8_productHere_13 rfl ?_
      refine tv_getI hX dX8_productHere_14 hw 27 (by decide) rfl q1936 ?_
      refine v_icmp_ge_f (tgt := 42) hX dX8_productHere_17 rfl (ge_s hr.2.1 hi (Nat.le_trans hr.1 (by decide))) ?_
      refine v_aload_n hX dX8_productHere_20 rfl ?_
      refine tv_getA hX dX8_productHere_21 hw 30 (by decide) rfl q1939 ?_
      refine v_iload_n hX dX8_productHere_24 rfl ?_
      refine tv_lald hX dX8_productHere_25 hw (by decide) rfl rfl (vnI (Nat.lt_of_lt_of_le hi hr.1) (by decide)) ?_
      refine v_aload_n hX dX8_productHere_26 rfl ?_
      refine tv_getL hX dX8_productHere_27 hw 25 (by decide) rfl q1934 ?_
      refine v_lcmp hX dX8_productHere_30 ?_
      refine v_ifl_ne (tgt := 36) hX dX8_productHere_31 rfl (fun c_31 => ?_) (fun c_31 => ?_)
      · refine v_iinc (lv' := [_, _]) hX dX8_productHere_36 rfl li1 rfl rfl ?_
        refine v_goto (tgt := 12) hX dX8_productHere_39 rfl ?_
        exact V.at rfl (by rw [nI_1]) rfl (ih (lt_s hI c_31))
      · refine v_iload_n hX dX8_productHere_34 rfl ?_
        exact v_iret hX dX8_productHere_35 hR (Nat.le_of_ble_eq_true rfl) (Nat.le_of_ble_eq_true rfl) (⟨congrArg (fun z => some (Value.int z)) (Eq.symm ((if_pos c_5).trans (ff_some (Nat.le_trans hr.1 (by decide)) hi hI c_31))), rfl⟩)
  · refine v_iconst hX dX8_productHere_8 lim1 ?_
    exact v_iret hX dX8_productHere_9 hR (Nat.le_of_ble_eq_true rfl) (Nat.le_of_ble_eq_true rfl) (⟨congrArg (fun z => some (Value.int z)) (Eq.symm (if_neg c_5)), rfl⟩)
theorem cf_X8_readValue : CF RX8 yX8_readValue cX8_readValue 4 (some .int) 2 := ⟨q2189, qs56, q150, q2190, by decide +kernel⟩
theorem mX8_readValue {Γ : Gm} {l : Launch} {G : Nat → Nat} {wB : Wd} {x : TS} {w : Wd} (hw : tW Γ G wB x w) (hT : tX x) (lo hi : Int32) : M0 Γ l yX8_readValue (ws_ yX8_readValue cX8_readValue 4 (some .int)) (rl 4 0 0) 0 0 [.ref (G 61), .int lo, .int hi] w (fun r9 w9 => r9 = some (.int (tw_val lo hi x).1) ∧ tW Γ G wB ((tw_val lo hi x).2) w9) := by
  refine M0.of (lv := [some (.ref (G 61)), some (.int lo), some (.int hi), none]) (by decide) (Nat.le_of_ble_eq_true rfl) 1 rfl rfl ?_
  intro X hX hR hl hG hnm
  subst hl; subst hG
  refine v_aload_n hX dX8_readValue_0 rfl ?_
  refine v_join 26 (.int (bi (x.1 23 = 2 ∧ (lo ≤ x.1 24 ∧ x.1 24 ≤ hi)))) ?_ (fun hj => ?_)
  · refine tv_call0 hX rfl dX8_readValue_26 q2175 cf_X8_must hw (mX8_must hw _) rfl ⟨rfl, rfl⟩ ⟨Nat.le_of_ble_eq_true rfl, Nat.le_of_ble_eq_true rfl⟩ rfl (Nat.le_of_ble_eq_true rfl) ⟨Nat.le_of_ble_eq_true rfl, Nat.le_of_ble_eq_true rfl⟩ (fun w hw => ?_)
    refine v_aload_n hX dX8_readValue_29 rfl ?_
    refine tv_callR hX rfl dX8_readValue_30 q2152 cf_X8_isWell hw (mX8_isWell hw) rfl ⟨rfl, rfl⟩ ⟨Nat.le_of_ble_eq_true rfl, Nat.le_of_ble_eq_true rfl⟩ rfl (Nat.le_of_ble_eq_true rfl) ⟨Nat.le_of_ble_eq_true rfl, Nat.le_of_ble_eq_true rfl⟩ ?_
    refine v_ifb_ne (tgt := 38) hX dX8_readValue_33 rfl (fun c_33 => ?_) (fun c_33 => ?_)
    · refine v_aload_n hX dX8_readValue_38 rfl ?_
      refine tv_getI hX dX8_readValue_39 hw 24 (by decide) rfl q1933 ?_
      refine v_istore_n (lv' := [_, _, _, _]) hX dX8_readValue_42 (Nat.le_of_ble_eq_true rfl) rfl rfl ?_
      refine v_aload_n hX dX8_readValue_43 rfl ?_
      refine tv_call0 hX rfl dX8_readValue_44 q2122 cf_X8_readToken hw (mX8_readToken hw (must_X hT)) rfl ⟨rfl, rfl⟩ ⟨Nat.le_of_ble_eq_true rfl, Nat.le_of_ble_eq_true rfl⟩ rfl (Nat.le_of_ble_eq_true rfl) ⟨Nat.le_of_ble_eq_true rfl, Nat.le_of_ble_eq_true rfl⟩ (fun w hw => ?_)
      refine v_iload_n hX dX8_readValue_47 rfl ?_
      exact v_iret hX dX8_readValue_48 hR (Nat.le_of_ble_eq_true rfl) (Nat.le_of_ble_eq_true rfl) (⟨by rw [tw_val_eq, tw_val2, if_pos c_33], hw.to (by rw [tw_val_eq, tw_val2, if_pos c_33])⟩)
    · refine v_iconst hX dX8_readValue_36 li0 ?_
      exact v_iret hX dX8_readValue_37 hR (Nat.le_of_ble_eq_true rfl) (Nat.le_of_ble_eq_true rfl) (⟨by rw [tw_val_eq, tw_val2, if_neg c_33], hw.to (by rw [tw_val_eq, tw_val2, if_neg c_33])⟩)
  · refine v_aload_n hX dX8_readValue_1 rfl ?_
    refine tv_getI hX dX8_readValue_2 hw 23 (by decide) rfl q1932 ?_
    refine v_iconst hX dX8_readValue_5 li2 ?_
    refine v_icmp_ne (tgt := 25) hX dX8_readValue_6 rfl (fun c_6 => ?_) (fun c_6 => ?_)
    · refine v_iconst hX dX8_readValue_25 li0 ?_
      exact V.at rfl rfl (by simp [bi, c_6]) hj
    · refine v_aload_n hX dX8_readValue_9 rfl ?_
      refine tv_getI hX dX8_readValue_10 hw 24 (by decide) rfl q1933 ?_
      refine v_iload_n hX dX8_readValue_13 rfl ?_
      refine v_iload_n hX dX8_readValue_14 rfl ?_
      refine v_callSr hX rfl dX8_readValue_15 q2115 cs_X8_isIn (mX8_isIn _ _ _) rfl ⟨rfl, rfl⟩ ⟨Nat.le_of_ble_eq_true rfl, Nat.le_of_ble_eq_true rfl⟩ rfl (Nat.le_of_ble_eq_true rfl) ⟨Nat.le_of_ble_eq_true rfl, Nat.le_of_ble_eq_true rfl⟩ ?_
      refine v_ifb_eq (tgt := 25) hX dX8_readValue_18 rfl (fun c_18 => ?_) (fun c_18 => ?_)
      · refine v_iconst hX dX8_readValue_25 li0 ?_
        exact V.at rfl rfl (by simp [bi, c_6, c_18]) hj
      · refine v_iconst hX dX8_readValue_21 li1 ?_
        refine v_goto (tgt := 26) hX dX8_readValue_22 rfl ?_
        exact V.at rfl rfl (by simp [bi, c_6, c_18]) hj
end
