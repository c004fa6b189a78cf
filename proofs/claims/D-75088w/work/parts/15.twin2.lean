/-! the twin: the day, what is read -/
set_option maxRecDepth 100000
theorem lb7 : (Int8.ofInt (7)).toInt32 = 7 := by decide +kernel
theorem lim1 : Int32.ofInt (-1) = -1 := by decide +kernel
theorem li5 : Int32.ofInt (5) = 5 := by decide +kernel
def tw_ripening (x : TS) (b : Int32) : Int32 := if tw_ripe x b ≤ tA x 33 b then 0 else (tw_ripe x b - tA x 33 b + tG x 4 - 1) / tG x 4
def tw_heating (x : TS) (d b : Int32) : Int32 := (tw_apart (tA x 11 (tB x b 0)) (tA x 50 d) + tG x 5 - 1) / tG x 5
def tw_rank (x : TS) (b : Int32) : Int32 := if tG x 7 = 0 then b else if tG x 7 = 1 then tw_old x b - tA x 33 b else tB x b 2
theorem cf_X8_ripening : CF RX8 yX8_ripening cX8_ripening 2 (some .int) 1 := ⟨q2351, qs84, q150, q2352, by decide +kernel⟩
theorem mX8_ripening {Γ : Gm} {l : Launch} {G : Nat → Nat} {wB : Wd} {x : TS} {w : Wd} (hw : tW Γ G wB x w) (hP : tP x) (b : Int32) (hb : vp_in b (pn x)) : MRd Γ l yX8_ripening (ws_ yX8_ripening cX8_ripening 2 (some .int)) (rl 4 0 0) [.ref (G 61), .int b] w (.int (tw_ripening x b)) := by
  refine M0.of (lv := [some (.ref (G 61)), some (.int b)]) (by decide) (Nat.le_of_ble_eq_true rfl) 0 rfl rfl ?_
  intro X hX hR hl hG hnm
  subst hl; subst hG
  refine v_aload_n hX dX8_ripening_0 rfl ?_
  refine v_iload_n hX dX8_ripening_1 rfl ?_
  refine tv_callR hX rfl dX8_ripening_2 q2353 cf_X8_isRipe hw (mX8_isRipe hw hP _ hb) rfl ⟨rfl, rfl⟩ ⟨Nat.le_of_ble_eq_true rfl, Nat.le_of_ble_eq_true rfl⟩ rfl (Nat.le_of_ble_eq_true rfl) ⟨Nat.le_of_ble_eq_true rfl, Nat.le_of_ble_eq_true rfl⟩ ?_
  refine v_ifb_eq (tgt := 12) hX dX8_ripening_5 rfl (fun c_5 => ?_) (fun c_5 => ?_)
  · refine v_aload_n hX dX8_ripening_12 rfl ?_
    refine v_iload_n hX dX8_ripening_13 rfl ?_
    refine tv_callR hX rfl dX8_ripening_14 q2357 cf_X8_ripeParts hw (mX8_ripeParts hw hP _ hb) rfl ⟨rfl, rfl⟩ ⟨Nat.le_of_ble_eq_true rfl, Nat.le_of_ble_eq_true rfl⟩ rfl (Nat.le_of_ble_eq_true rfl) ⟨Nat.le_of_ble_eq_true rfl, Nat.le_of_ble_eq_true rfl⟩ ?_
    refine v_aload_n hX dX8_ripening_17 rfl ?_
    refine tv_getA hX dX8_ripening_18 hw 33 (by decide) rfl q1942 ?_
    refine v_iload_n hX dX8_ripening_21 rfl ?_
    refine tv_iald hX dX8_ripening_22 hw (by decide) rfl rfl (b20 hP hb) ?_
    refine v_isub hX dX8_ripening_23 ?_
    refine v_aload_n hX dX8_ripening_24 rfl ?_
    refine v_iconst hX dX8_ripening_25 li4 ?_
    refine tv_callR hX rfl dX8_ripening_26 q2229 cf_X8_get hw (mX8_get hw _ (gidx hP (vin (by decide)))) rfl ⟨rfl, rfl⟩ ⟨Nat.le_of_ble_eq_true rfl, Nat.le_of_ble_eq_true rfl⟩ rfl (Nat.le_of_ble_eq_true rfl) ⟨Nat.le_of_ble_eq_true rfl, Nat.le_of_ble_eq_true rfl⟩ ?_
    refine v_callSr hX rfl dX8_ripening_29 q2361 cs_X8_quotientUp (mX8_quotientUp _ _ (pslow hP)) rfl ⟨rfl, rfl⟩ ⟨Nat.le_of_ble_eq_true rfl, Nat.le_of_ble_eq_true rfl⟩ rfl (Nat.le_of_ble_eq_true rfl) ⟨Nat.le_of_ble_eq_true rfl, Nat.le_of_ble_eq_true rfl⟩ ?_
    exact v_iret hX dX8_ripening_32 hR (Nat.le_of_ble_eq_true rfl) (Nat.le_of_ble_eq_true rfl) (⟨congrArg (fun z => some (Value.int z)) (Eq.symm (by first | (rw [tw_ripening, if_neg c_5]; done) | (rw [tw_ripening, if_neg c_5]; rfl))), rfl⟩)
  · refine v_iconst hX dX8_ripening_8 li0 ?_
    refine v_goto (tgt := 32) hX dX8_ripening_9 rfl ?_
    exact v_iret hX dX8_ripening_32 hR (Nat.le_of_ble_eq_true rfl) (Nat.le_of_ble_eq_true rfl) (⟨congrArg (fun z => some (Value.int z)) (Eq.symm (by first | (rw [tw_ripening, if_pos c_5]; done) | (rw [tw_ripening, if_pos c_5]; rfl))), rfl⟩)
theorem cf_X8_heating : CF RX8 yX8_heating cX8_heating 3 (some .int) 2 := ⟨q2366, qs87, q150, q2367, by decide +kernel⟩
theorem mX8_heating {Γ : Gm} {l : Launch} {G : Nat → Nat} {wB : Wd} {x : TS} {w : Wd} (hw : tW Γ G wB x w) (hP : tP x) (d b : Int32) (hd : vp_in d 4) (hb : vp_in b (pn x)) : MRd Γ l yX8_heating (ws_ yX8_heating cX8_heating 3 (some .int)) (rl 2 0 0) [.ref (G 61), .int d, .int b] w (.int (tw_heating x d b)) := by
  refine M0.of (lv := [some (.ref (G 61)), some (.int d), some (.int b)]) (by decide) (Nat.le_of_ble_eq_true rfl) 0 rfl rfl ?_
  intro X hX hR hl hG hnm
  subst hl; subst hG
  refine v_aload_n hX dX8_heating_0 rfl ?_
  refine tv_getA hX dX8_heating_1 hw 11 (by decide) rfl q1920 ?_
  refine v_aload_n hX dX8_heating_4 rfl ?_
  refine v_iload_n hX dX8_heating_5 rfl ?_
  refine tv_callR hX rfl dX8_heating_6 q2325 cf_X8_productOfBatch hw (mX8_productOfBatch hw hP _ hb) rfl ⟨rfl, rfl⟩ ⟨Nat.le_of_ble_eq_true rfl, Nat.le_of_ble_eq_true rfl⟩ rfl (Nat.le_of_ble_eq_true rfl) ⟨Nat.le_of_ble_eq_true rfl, Nat.le_of_ble_eq_true rfl⟩ ?_
  refine tv_iald hX dX8_heating_9 hw (by decide) rfl rfl (bprod hP hb) ?_
  refine v_aload_n hX dX8_heating_10 rfl ?_
  refine tv_getA hX dX8_heating_11 hw 50 (by decide) rfl q1959 ?_
  refine v_iload_n hX dX8_heating_14 rfl ?_
  refine tv_iald hX dX8_heating_15 hw (by decide) rfl rfl (hd) ?_
  refine v_callSr hX rfl dX8_heating_16 q2368 cs_X8_apart (mX8_apart _ _) rfl ⟨rfl, rfl⟩ ⟨Nat.le_of_ble_eq_true rfl, Nat.le_of_ble_eq_true rfl⟩ rfl (Nat.le_of_ble_eq_true rfl) ⟨Nat.le_of_ble_eq_true rfl, Nat.le_of_ble_eq_true rfl⟩ ?_
  refine v_aload_n hX dX8_heating_19 rfl ?_
  refine v_iconst hX dX8_heating_20 li5 ?_
  refine tv_callR hX rfl dX8_heating_21 q2229 cf_X8_get hw (mX8_get hw _ (gidx hP (vin (by decide)))) rfl ⟨rfl, rfl⟩ ⟨Nat.le_of_ble_eq_true rfl, Nat.le_of_ble_eq_true rfl⟩ rfl (Nat.le_of_ble_eq_true rfl) ⟨Nat.le_of_ble_eq_true rfl, Nat.le_of_ble_eq_true rfl⟩ ?_
  refine v_callSr hX rfl dX8_heating_24 q2361 cs_X8_quotientUp (mX8_quotientUp _ _ (prate hP)) rfl ⟨rfl, rfl⟩ ⟨Nat.le_of_ble_eq_true rfl, Nat.le_of_ble_eq_true rfl⟩ rfl (Nat.le_of_ble_eq_true rfl) ⟨Nat.le_of_ble_eq_true rfl, Nat.le_of_ble_eq_true rfl⟩ ?_
  exact v_iret hX dX8_heating_27 hR (Nat.le_of_ble_eq_true rfl) (Nat.le_of_ble_eq_true rfl) (⟨rfl, rfl⟩)
theorem cf_X8_rank : CF RX8 yX8_rank cX8_rank 2 (some .int) 1 := ⟨q2373, qs88, q150, q2374, by decide +kernel⟩
theorem mX8_rank {Γ : Gm} {l : Launch} {G : Nat → Nat} {wB : Wd} {x : TS} {w : Wd} (hw : tW Γ G wB x w) (hP : tP x) (b : Int32) (hb : vp_in b (pn x)) : MRd Γ l yX8_rank (ws_ yX8_rank cX8_rank 2 (some .int)) (rl 3 0 0) [.ref (G 61), .int b] w (.int (tw_rank x b)) := by
  refine M0.of (lv := [some (.ref (G 61)), some (.int b)]) (by decide) (Nat.le_of_ble_eq_true rfl) 0 rfl rfl ?_
  intro X hX hR hl hG hnm
  subst hl; subst hG
  refine v_aload_n hX dX8_rank_0 rfl ?_
  refine v_bipush hX dX8_rank_1 lb7 ?_
  refine tv_callR hX rfl dX8_rank_3 q2229 cf_X8_get hw (mX8_get hw _ (gidx hP (vin (by decide)))) rfl ⟨rfl, rfl⟩ ⟨Nat.le_of_ble_eq_true rfl, Nat.le_of_ble_eq_true rfl⟩ rfl (Nat.le_of_ble_eq_true rfl) ⟨Nat.le_of_ble_eq_true rfl, Nat.le_of_ble_eq_true rfl⟩ ?_
  by_cases c_6_0 : tG x 7 = 0
  · rw [c_6_0]
    refine v_lookup (tgt := 32) hX dX8_rank_6 (by decide) rfl rfl ?_
    refine v_iload_n hX dX8_rank_32 rfl ?_
    exact v_iret hX dX8_rank_33 hR (Nat.le_of_ble_eq_true rfl) (Nat.le_of_ble_eq_true rfl) (⟨congrArg (fun z => some (Value.int z)) (Eq.symm (if_pos c_6_0)), rfl⟩)
  by_cases c_6_1 : tG x 7 = 1
  · rw [c_6_1]
    refine v_lookup (tgt := 34) hX dX8_rank_6 (by decide) rfl rfl ?_
    refine v_aload_n hX dX8_rank_34 rfl ?_
    refine v_iload_n hX dX8_rank_35 rfl ?_
    refine tv_callR hX rfl dX8_rank_36 q2321 cf_X8_oldParts hw (mX8_oldParts hw hP _ hb) rfl ⟨rfl, rfl⟩ ⟨Nat.le_of_ble_eq_true rfl, Nat.le_of_ble_eq_true rfl⟩ rfl (Nat.le_of_ble_eq_true rfl) ⟨Nat.le_of_ble_eq_true rfl, Nat.le_of_ble_eq_true rfl⟩ ?_
    refine v_aload_n hX dX8_rank_39 rfl ?_
    refine tv_getA hX dX8_rank_40 hw 33 (by decide) rfl q1942 ?_
    refine v_iload_n hX dX8_rank_43 rfl ?_
    refine tv_iald hX dX8_rank_44 hw (by decide) rfl rfl (b20 hP hb) ?_
    refine v_isub hX dX8_rank_45 ?_
    exact v_iret hX dX8_rank_46 hR (Nat.le_of_ble_eq_true rfl) (Nat.le_of_ble_eq_true rfl) (⟨congrArg (fun z => some (Value.int z)) (Eq.symm ((if_neg c_6_0).trans (if_pos c_6_1))), rfl⟩)
  refine v_lookup (off := 41) (tgt := 47) hX dX8_rank_6 (by decide) (by have h_0 := i32_ne (z := 0) c_6_0 (by decide); have h_1 := i32_ne (z := 1) c_6_1 (by decide); simp [Op.lookupswitch.offset, h_0, (Ne.symm h_0), h_1, (Ne.symm h_1)]) rfl ?_
  refine v_aload_n hX dX8_rank_47 rfl ?_
  refine v_iload_n hX dX8_rank_48 rfl ?_
  refine v_iconst hX dX8_rank_49 li2 ?_
  refine tv_callR hX rfl dX8_rank_50 q2269 cf_X8_batch hw (mX8_batch hw _ _ (bidx hP hb (vin (by decide)))) rfl ⟨rfl, rfl⟩ ⟨Nat.le_of_ble_eq_true rfl, Nat.le_of_ble_eq_true rfl⟩ rfl (Nat.le_of_ble_eq_true rfl) ⟨Nat.le_of_ble_eq_true rfl, Nat.le_of_ble_eq_true rfl⟩ ?_
  exact v_iret hX dX8_rank_53 hR (Nat.le_of_ble_eq_true rfl) (Nat.le_of_ble_eq_true rfl) (⟨congrArg (fun z => some (Value.int z)) (Eq.symm ((if_neg c_6_0).trans (if_neg c_6_1))), rfl⟩)
theorem cf_X8_isFreeDeck : CF RX8 yX8_isFreeDeck cX8_isFreeDeck 2 (some .boolean) 1 := ⟨q2339, qs81, q150, q2340, by decide +kernel⟩
theorem mX8_isFreeDeck {Γ : Gm} {l : Launch} {G : Nat → Nat} {wB : Wd} {x : TS} {w : Wd} (hw : tW Γ G wB x w) (d : Int32) (hd : vp_in d 4) : MRd Γ l yX8_isFreeDeck (ws_ yX8_isFreeDeck cX8_isFreeDeck 2 (some .boolean)) (rl 0 0 0) [.ref (G 61), .int d] w (.int (bi (tA x 47 d = -1 ∧ tA x 48 d = -1))) := by
  refine M0.of (lv := [some (.ref (G 61)), some (.int d)]) (by decide) (Nat.le_of_ble_eq_true rfl) 0 rfl rfl ?_
  intro X hX hR hl hG hnm
  subst hl; subst hG
  refine v_aload_n hX dX8_isFreeDeck_0 rfl ?_
  refine tv_getA hX dX8_isFreeDeck_1 hw 47 (by decide) rfl q1956 ?_
  refine v_iload_n hX dX8_isFreeDeck_4 rfl ?_
  refine tv_iald hX dX8_isFreeDeck_5 hw (by decide) rfl rfl (hd) ?_
  refine v_iconst hX dX8_isFreeDeck_6 lim1 ?_
  refine v_icmp_ne (tgt := 24) hX dX8_isFreeDeck_7 rfl (fun c_7 => ?_) (fun c_7 => ?_)
  · refine v_iconst hX dX8_isFreeDeck_24 li0 ?_
    exact v_zret hX dX8_isFreeDeck_25 hR (Nat.le_of_ble_eq_true rfl) (Nat.le_of_ble_eq_true rfl) (rfl) (⟨by simp [bi, *], rfl⟩)
  · refine v_aload_n hX dX8_isFreeDeck_10 rfl ?_
    refine tv_getA hX dX8_isFreeDeck_11 hw 48 (by decide) rfl q1957 ?_
    refine v_iload_n hX dX8_isFreeDeck_14 rfl ?_
    refine tv_iald hX dX8_isFreeDeck_15 hw (by decide) rfl rfl (hd) ?_
    refine v_iconst hX dX8_isFreeDeck_16 lim1 ?_
    refine v_icmp_ne (tgt := 24) hX dX8_isFreeDeck_17 rfl (fun c_17 => ?_) (fun c_17 => ?_)
    · refine v_iconst hX dX8_isFreeDeck_24 li0 ?_
      exact v_zret hX dX8_isFreeDeck_25 hR (Nat.le_of_ble_eq_true rfl) (Nat.le_of_ble_eq_true rfl) (rfl) (⟨by simp [bi, *], rfl⟩)
    · refine v_iconst hX dX8_isFreeDeck_20 li1 ?_
      refine v_goto (tgt := 25) hX dX8_isFreeDeck_21 rfl ?_
      exact v_zret hX dX8_isFreeDeck_25 hR (Nat.le_of_ble_eq_true rfl) (Nat.le_of_ble_eq_true rfl) (rfl) (⟨by simp [bi, *], rfl⟩)
theorem cf_X8_isReserved : CF RX8 yX8_isReserved cX8_isReserved 3 (some .boolean) 1 := ⟨q2347, qs83, q150, q2348, by decide +kernel⟩
theorem mX8_isReserved {Γ : Gm} {l : Launch} {G : Nat → Nat} {wB : Wd} {x : TS} {w : Wd} (hw : tW Γ G wB x w) (hP : tP x) (b : Int32) : MRd Γ l yX8_isReserved (ws_ yX8_isReserved cX8_isReserved 3 (some .boolean)) (rl 1 0 0) [.ref (G 61), .int b] w (.int (bi (∃ d, d < pd x ∧ tA x 47 (nI d) = b))) := by
  refine M0.of (lv := [some (.ref (G 61)), some (.int b), none]) (by decide) (Nat.le_of_ble_eq_true rfl) 1 rfl rfl ?_
  intro X hX hR hl hG hnm
  subst hl; subst hG
  refine v_iconst hX dX8_isReserved_0 li0 ?_
  refine v_istore_n (lv' := [_, _, _]) hX dX8_isReserved_1 (Nat.le_of_ble_eq_true rfl) rfl rfl ?_
  refine loop_up (pd x) (fun i => (∀ j, j < i → ¬ tA x 47 (nI j) = b) → V X w 0 0 2 [some (.ref (G 61)), some (.int b), some (.int (nI (i)))] []) ?_ ?_ 0 (Nat.zero_le _) (fun j hj => absurd hj (Nat.not_lt_zero j))
  · intro hI
    refine v_iload_n hX dX8_isReserved_2 rfl ?_
    refine v_aload_n hX dX8_isReserved_3 rfl ?_
    refine v_iconst hX dX8_isReserved_4 li1 ?_
    refine tv_callR hX rfl dX8_isReserved_5 q2229 cf_X8_get hw (mX8_get hw _ (gidx hP (vin (by decide)))) rfl ⟨rfl, rfl⟩ ⟨Nat.le_of_ble_eq_true rfl, Nat.le_of_ble_eq_true rfl⟩ rfl (Nat.le_of_ble_eq_true rfl) ⟨Nat.le_of_ble_eq_true rfl, Nat.le_of_ble_eq_true rfl⟩ ?_
    refine v_icmp_ge_t (tgt := 29) hX dX8_isReserved_8 rfl (ge_x hP.2.2.2.1.2.2 rfl) ?_
    refine v_iconst hX dX8_isReserved_29 li0 ?_
    exact v_zret hX dX8_isReserved_30 hR (Nat.le_of_ble_eq_true rfl) (Nat.le_of_ble_eq_true rfl) (rfl) (⟨congrArg (fun z => some (Value.int z)) (Eq.symm (bi_f (fun h => by obtain ⟨d, h1, h2⟩ := h; exact hI d h1 h2))), rfl⟩)
  · intro i hi ih hI
    have ih : (∀ j, j < i + 1 → ¬ tA x 47 (nI j) = b) → V X w 0 0 2 [some (.ref (G 61)), some (.int b), some (.int (nI (i + 1)))] [] := ih
    refine v_iload_n hX dX8_isReserved_2 rfl ?_
    refine v_aload_n hX dX8_isReserved_3 rfl ?_
    refine v_iconst hX dX8_isReserved_4 li1 ?_
    refine tv_callR hX rfl dX8_isReserved_5 q2229 cf_X8_get hw (mX8_get hw _ (gidx hP (vin (by decide)))) rfl ⟨rfl, rfl⟩ ⟨Nat.le_of_ble_eq_true rfl, Nat.le_of_ble_eq_true rfl⟩ rfl (Nat.le_of_ble_eq_true rfl) ⟨Nat.le_of_ble_eq_true rfl, Nat.le_of_ble_eq_true rfl⟩ ?_
    refine v_icmp_ge_f (tgt := 29) hX dX8_isReserved_8 rfl (ge_s hP.2.2.2.1.2.2 hi (Nat.le_trans hP.2.2.2.1.2.1 (by decide))) ?_
    refine v_aload_n hX dX8_isReserved_11 rfl ?_
    refine tv_getA hX dX8_isReserved_12 hw 47 (by decide) rfl q1956 ?_
    refine v_iload_n hX dX8_isReserved_15 rfl ?_
    refine tv_iald hX dX8_isReserved_16 hw (by decide) rfl rfl (vnI (Nat.lt_of_lt_of_le hi hP.2.2.2.1.2.1) (by decide)) ?_
    refine v_iload_n hX dX8_isReserved_17 rfl ?_
    refine v_icmp_ne (tgt := 23) hX dX8_isReserved_18 rfl (fun c_18 => ?_) (fun c_18 => ?_)
    · refine v_iinc (lv' := [_, _, _]) hX dX8_isReserved_23 rfl li1 rfl rfl ?_
      refine v_goto (tgt := 2) hX dX8_isReserved_26 rfl ?_
      exact V.at rfl (by rw [nI_1]) rfl (ih (lt_s hI c_18))
    · refine v_iconst hX dX8_isReserved_21 li1 ?_
      exact v_zret hX dX8_isReserved_22 hR (Nat.le_of_ble_eq_true rfl) (Nat.le_of_ble_eq_true rfl) (rfl) (⟨congrArg (fun z => some (Value.int z)) (Eq.symm (bi_t ⟨i, hi, c_18⟩)), rfl⟩)
theorem cf_X8_manyAt : CF RX8 yX8_manyAt cX8_manyAt 4 (some .int) 1 := ⟨q2385, qs91, q150, q2386, by decide +kernel⟩
theorem mX8_manyAt {Γ : Gm} {l : Launch} {G : Nat → Nat} {wB : Wd} {x : TS} {w : Wd} (hw : tW Γ G wB x w) (hP : tP x) (u : Int32) : MRd Γ l yX8_manyAt (ws_ yX8_manyAt cX8_manyAt 4 (some .int)) (rl 2 0 0) [.ref (G 61), .int u] w (.int (ct (fun b => tA x 32 (nI b) = u) (pn x))) := by
  refine M0.of (lv := [some (.ref (G 61)), some (.int u), none, none]) (by decide) (Nat.le_of_ble_eq_true rfl) 2 rfl rfl ?_
  intro X hX hR hl hG hnm
  subst hl; subst hG
  refine v_iconst hX dX8_manyAt_0 li0 ?_
  refine v_istore_n (lv' := [_, _, _, _]) hX dX8_manyAt_1 (Nat.le_of_ble_eq_true rfl) rfl rfl ?_
  refine v_iconst hX dX8_manyAt_2 li0 ?_
  refine v_istore_n (lv' := [_, _, _, _]) hX dX8_manyAt_3 (Nat.le_of_ble_eq_true rfl) rfl rfl ?_
  refine loop_up (pn x) (fun i => V X w 0 0 4 [some (.ref (G 61)), some (.int u), some (.int (ct (fun b => tA x 32 (nI b) = u) (i))), some (.int (nI (i)))] []) ?_ ?_ 0 (Nat.zero_le _)
  · skip
    refine v_iload_n hX dX8_manyAt_4 rfl ?_
    refine v_aload_n hX dX8_manyAt_5 rfl ?_
    refine tv_callR hX rfl dX8_manyAt_6 q2225 cf_X8_many hw (mX8_many hw hP) rfl ⟨rfl, rfl⟩ ⟨Nat.le_of_ble_eq_true rfl, Nat.le_of_ble_eq_true rfl⟩ rfl (Nat.le_of_ble_eq_true rfl) ⟨Nat.le_of_ble_eq_true rfl, Nat.le_of_ble_eq_true rfl⟩ ?_
    refine v_icmp_ge_t (tgt := 31) hX dX8_manyAt_9 rfl (ge_x hP.2.1.2 rfl) ?_
    refine v_iload_n hX dX8_manyAt_31 rfl ?_
    exact v_iret hX dX8_manyAt_32 hR (Nat.le_of_ble_eq_true rfl) (Nat.le_of_ble_eq_true rfl) (⟨rfl, rfl⟩)
  · intro i hi ih
    have ih : V X w 0 0 4 [some (.ref (G 61)), some (.int u), some (.int (ct (fun b => tA x 32 (nI b) = u) (i + 1))), some (.int (nI (i + 1)))] [] := ih
    refine v_iload_n hX dX8_manyAt_4 rfl ?_
    refine v_aload_n hX dX8_manyAt_5 rfl ?_
    refine tv_callR hX rfl dX8_manyAt_6 q2225 cf_X8_many hw (mX8_many hw hP) rfl ⟨rfl, rfl⟩ ⟨Nat.le_of_ble_eq_true rfl, Nat.le_of_ble_eq_true rfl⟩ rfl (Nat.le_of_ble_eq_true rfl) ⟨Nat.le_of_ble_eq_true rfl, Nat.le_of_ble_eq_true rfl⟩ ?_
    refine v_icmp_ge_f (tgt := 31) hX dX8_manyAt_9 rfl (ge_s hP.2.1.2 hi (Nat.le_trans hP.2.1.1 (by decide))) ?_
    refine v_aload_n hX dX8_manyAt_12 rfl ?_
    refine tv_getA hX dX8_manyAt_13 hw 32 (by decide) rfl q1941 ?_
    refine v_iload_n hX dX8_manyAt_16 rfl ?_
    refine tv_iald hX dX8_manyAt_17 hw (by decide) rfl rfl (vnI (Nat.lt_of_lt_of_le hi hP.2.1.1) (by decide)) ?_
    refine v_iload_n hX dX8_manyAt_18 rfl ?_
    refine v_icmp_ne (tgt := 25) hX dX8_manyAt_19 rfl (fun c_19 => ?_) (fun c_19 => ?_)
    · refine v_iinc (lv' := [_, _, _, _]) hX dX8_manyAt_25 rfl li1 rfl rfl ?_
      refine v_goto (tgt := 4) hX dX8_manyAt_28 rfl ?_
      exact V.at rfl (by rw [nI_1, ct, if_neg c_19]) rfl ih
    · refine v_iinc (lv' := [_, _, _, _]) hX dX8_manyAt_22 rfl li1 rfl rfl ?_
      refine v_iinc (lv' := [_, _, _, _]) hX dX8_manyAt_25 rfl li1 rfl rfl ?_
      refine v_goto (tgt := 4) hX dX8_manyAt_28 rfl ?_
      exact V.at rfl (by rw [nI_1, ct, if_pos c_19]) rfl ih
theorem cf_X8_nextInList : CF RX8 yX8_nextInList cX8_nextInList 3 (some .int) 1 := ⟨q2393, qs93, q150, q2394, by decide +kernel⟩
theorem mX8_nextInList {Γ : Gm} {l : Launch} {G : Nat → Nat} {wB : Wd} {x : TS} {w : Wd} (hw : tW Γ G wB x w) (hP : tP x) (t : Int32) : MRd Γ l yX8_nextInList (ws_ yX8_nextInList cX8_nextInList 3 (some .int)) (rl 2 0 0) [.ref (G 61), .int t] w (.int (ff (fun b => tA x 32 (nI b) = 0 ∧ ¬ t < tB x (nI b) 1) (pn x))) := by
  refine M0.of (lv := [some (.ref (G 61)), some (.int t), none]) (by decide) (Nat.le_of_ble_eq_true rfl) 1 rfl rfl ?_
  intro X hX hR hl hG hnm
  subst hl; subst hG
  refine v_iconst hX dX8_nextInList_0 li0 ?_
  refine v_istore_n (lv' := [_, _, _]) hX dX8_nextInList_1 (Nat.le_of_ble_eq_true rfl) rfl rfl ?_
  refine loop_up (pn x) (fun i => (∀ j, j < i → ¬ (tA x 32 (nI j) = 0 ∧ ¬ t < tB x (nI j) 1)) → V X w 0 0 2 [some (.ref (G 61)), some (.int t), some (.int (nI (i)))] []) ?_ ?_ 0 (Nat.zero_le _) (fun j hj => absurd hj (Nat.not_lt_zero j))
  · intro hI
    refine v_iload_n hX dX8_nextInList_2 rfl ?_
    refine v_aload_n hX dX8_nextInList_3 rfl ?_
    refine tv_callR hX rfl dX8_nextInList_4 q2225 cf_X8_many hw (mX8_many hw hP) rfl ⟨rfl, rfl⟩ ⟨Nat.le_of_ble_eq_true rfl, Nat.le_of_ble_eq_true rfl⟩ rfl (Nat.le_of_ble_eq_true rfl) ⟨Nat.le_of_ble_eq_true rfl, Nat.le_of_ble_eq_true rfl⟩ ?_
    refine v_icmp_ge_t (tgt := 37) hX dX8_nextInList_7 rfl (ge_x hP.2.1.2 rfl) ?_
    refine v_iconst hX dX8_nextInList_37 lim1 ?_
    exact v_iret hX dX8_nextInList_38 hR (Nat.le_of_ble_eq_true rfl) (Nat.le_of_ble_eq_true rfl) (⟨congrArg (fun z => some (Value.int z)) (Eq.symm (ff_none hI)), rfl⟩)
  · intro i hi ih hI
    have ih : (∀ j, j < i + 1 → ¬ (tA x 32 (nI j) = 0 ∧ ¬ t < tB x (nI j) 1)) → V X w 0 0 2 [some (.ref (G 61)), some (.int t), some (.int (nI (i + 1)))] [] := ih
    refine v_iload_n hX dX8_nextInList_2 rfl ?_
    refine v_aload_n hX dX8_nextInList_3 rfl ?_
    refine tv_callR hX rfl dX8_nextInList_4 q2225 cf_X8_many hw (mX8_many hw hP) rfl ⟨rfl, rfl⟩ ⟨Nat.le_of_ble_eq_true rfl, Nat.le_of_ble_eq_true rfl⟩ rfl (Nat.le_of_ble_eq_true rfl) ⟨Nat.le_of_ble_eq_true rfl, Nat.le_of_ble_eq_true rfl⟩ ?_
    refine v_icmp_ge_f (tgt := 37) hX dX8_nextInList_7 rfl (ge_s hP.2.1.2 hi (Nat.le_trans hP.2.1.1 (by decide))) ?_
    refine v_aload_n hX dX8_nextInList_10 rfl ?_
    refine tv_getA hX dX8_nextInList_11 hw 32 (by decide) rfl q1941 ?_
    refine v_iload_n hX dX8_nextInList_14 rfl ?_
    refine tv_iald hX dX8_nextInList_15 hw (by decide) rfl rfl (vnI (Nat.lt_of_lt_of_le hi hP.2.1.1) (by decide)) ?_
    refine v_if_ne (tgt := 31) hX dX8_nextInList_16 rfl (fun c_16 => ?_) (fun c_16 => ?_)
    · refine v_iinc (lv' := [_, _, _]) hX dX8_nextInList_31 rfl li1 rfl rfl ?_
      refine v_goto (tgt := 2) hX dX8_nextInList_34 rfl ?_
      exact V.at rfl (by rw [nI_1]) rfl (ih (lt_s hI (fun h => c_16 h.1)))
    · refine v_aload_n hX dX8_nextInList_19 rfl ?_
      refine v_iload_n hX dX8_nextInList_20 rfl ?_
      refine v_iconst hX dX8_nextInList_21 li1 ?_
      refine tv_callR hX rfl dX8_nextInList_22 q2269 cf_X8_batch hw (mX8_batch hw _ _ (bidx hP (vnI hi (Nat.le_trans hP.2.1.1 (by decide))) (vin (by decide)))) rfl ⟨rfl, rfl⟩ ⟨Nat.le_of_ble_eq_true rfl, Nat.le_of_ble_eq_true rfl⟩ rfl (Nat.le_of_ble_eq_true rfl) ⟨Nat.le_of_ble_eq_true rfl, Nat.le_of_ble_eq_true rfl⟩ ?_
      refine v_iload_n hX dX8_nextInList_25 rfl ?_
      refine v_icmp_gt (tgt := 31) hX dX8_nextInList_26 rfl (fun c_26 => ?_) (fun c_26 => ?_)
      · refine v_iinc (lv' := [_, _, _]) hX dX8_nextInList_31 rfl li1 rfl rfl ?_
        refine v_goto (tgt := 2) hX dX8_nextInList_34 rfl ?_
        exact V.at rfl (by rw [nI_1]) rfl (ih (lt_s hI (fun h => h.2 c_26)))
      · refine v_iload_n hX dX8_nextInList_29 rfl ?_
        exact v_iret hX dX8_nextInList_30 hR (Nat.le_of_ble_eq_true rfl) (Nat.le_of_ble_eq_true rfl) (⟨congrArg (fun z => some (Value.int z)) (Eq.symm (ff_some (Nat.le_trans hP.2.1.1 (by decide)) hi hI ⟨c_16, c_26⟩)), rfl⟩)
def tw_bst1 (x : TS) (d : Int32) (b : Nat) (best : Int32) : Int32 :=
  if tA x 32 (nI b) = 2 ∨ tA x 32 (nI b) = 3 then
    if ∃ d, d < pd x ∧ tA x 47 (nI d) = nI b then best
    else if tw_ripening x (nI b) ≤ tw_heating x d (nI b) then
      if best = -1 then nI b else if tw_rank x best ≤ tw_rank x (nI b) then best else nI b
    else best
  else best
def tw_best (x : TS) (d : Int32) : Int32 := it (tw_bst1 x d) (pn x) (-1)
theorem tw_bst_ok {x : TS} (hP : tP x) (d : Int32) : ∀ n, n ≤ pn x → it (tw_bst1 x d) n (-1) = -1 ∨ vp_in (it (tw_bst1 x d) n (-1)) (pn x) := by
  refine it_inv (fun v => v = -1 ∨ vp_in v (pn x)) (Or.inl rfl) (pn x) ?_
  intro i y hi hy
  have hi2 : vp_in (nI i) (pn x) := vnI hi (Nat.le_trans hP.2.1.1 (by decide))
  unfold tw_bst1
  repeat' split
  all_goals first | exact hy | exact Or.inr hi2
theorem cf_X8_bestFor : CF RX8 yX8_bestFor cX8_bestFor 4 (some .int) 1 := ⟨q2343, qs82, q150, q2344, by decide +kernel⟩
theorem mX8_bestFor {Γ : Gm} {l : Launch} {G : Nat → Nat} {wB : Wd} {x : TS} {w : Wd} (hw : tW Γ G wB x w) (hP : tP x) (d : Int32) (hd : vp_in d 4) : MRd Γ l yX8_bestFor (ws_ yX8_bestFor cX8_bestFor 4 (some .int)) (rl 5 0 0) [.ref (G 61), .int d] w (.int (tw_best x d)) := by
  refine M0.of (lv := [some (.ref (G 61)), some (.int d), none, none]) (by decide) (Nat.le_of_ble_eq_true rfl) 2 rfl rfl ?_
  intro X hX hR hl hG hnm
  subst hl; subst hG
  refine v_iconst hX dX8_bestFor_0 lim1 ?_
  refine v_istore_n (lv' := [_, _, _, _]) hX dX8_bestFor_1 (Nat.le_of_ble_eq_true rfl) rfl rfl ?_
  refine v_iconst hX dX8_bestFor_2 li0 ?_
  refine v_istore_n (lv' := [_, _, _, _]) hX dX8_bestFor_3 (Nat.le_of_ble_eq_true rfl) rfl rfl ?_
  refine loop_up (pn x) (fun i => V X w 0 0 4 [some (.ref (G 61)), some (.int d), some (.int (it (tw_bst1 x d) (i) (-1))), some (.int (nI (i)))] []) ?_ ?_ 0 (Nat.zero_le _)
  · skip
    refine v_iload_n hX dX8_bestFor_4 rfl ?_
    refine v_aload_n hX dX8_bestFor_5 rfl ?_
    refine tv_callR hX rfl dX8_bestFor_6 q2225 cf_X8_many hw (mX8_many hw hP) rfl ⟨rfl, rfl⟩ ⟨Nat.le_of_ble_eq_true rfl, Nat.le_of_ble_eq_true rfl⟩ rfl (Nat.le_of_ble_eq_true rfl) ⟨Nat.le_of_ble_eq_true rfl, Nat.le_of_ble_eq_true rfl⟩ ?_
    refine v_icmp_ge_t (tgt := 71) hX dX8_bestFor_9 rfl (ge_x hP.2.1.2 rfl) ?_
    refine v_iload_n hX dX8_bestFor_71 rfl ?_
    exact v_iret hX dX8_bestFor_72 hR (Nat.le_of_ble_eq_true rfl) (Nat.le_of_ble_eq_true rfl) (⟨rfl, rfl⟩)
  · intro i hi ih
    have ih : V X w 0 0 4 [some (.ref (G 61)), some (.int d), some (.int (it (tw_bst1 x d) (i + 1) (-1))), some (.int (nI (i + 1)))] [] := ih
    have hbi : vp_in (nI i) (pn x) := vnI hi (Nat.le_trans hP.2.1.1 (by decide))
    have hbo := tw_bst_ok hP d i (Nat.le_of_lt hi)
    have ih : V X w 0 0 4 [some (.ref (G 61)), some (.int d), some (.int (tw_bst1 x d i (it (tw_bst1 x d) i (-1)))), some (.int (nI (i + 1)))] [] := ih
    generalize it (tw_bst1 x d) i (-1) = best at hbo ih
    refine v_iload_n hX dX8_bestFor_4 rfl ?_
    refine v_aload_n hX dX8_bestFor_5 rfl ?_
    refine tv_callR hX rfl dX8_bestFor_6 q2225 cf_X8_many hw (mX8_many hw hP) rfl ⟨rfl, rfl⟩ ⟨Nat.le_of_ble_eq_true rfl, Nat.le_of_ble_eq_true rfl⟩ rfl (Nat.le_of_ble_eq_true rfl) ⟨Nat.le_of_ble_eq_true rfl, Nat.le_of_ble_eq_true rfl⟩ ?_
    refine v_icmp_ge_f (tgt := 71) hX dX8_bestFor_9 rfl (ge_s hP.2.1.2 hi (Nat.le_trans hP.2.1.1 (by decide))) ?_
    refine v_aload_n hX dX8_bestFor_12 rfl ?_
    refine v_iload_n hX dX8_bestFor_13 rfl ?_
    refine tv_callR hX rfl dX8_bestFor_14 q2317 cf_X8_isProofing hw (mX8_isProofing hw _ (b20 hP hbi)) rfl ⟨rfl, rfl⟩ ⟨Nat.le_of_ble_eq_true rfl, Nat.le_of_ble_eq_true rfl⟩ rfl (Nat.le_of_ble_eq_true rfl) ⟨Nat.le_of_ble_eq_true rfl, Nat.le_of_ble_eq_true rfl⟩ ?_
    refine v_ifb_eq (tgt := 65) hX dX8_bestFor_17 rfl (fun c_17 => ?_) (fun c_17 => ?_)
    · refine v_iinc (lv' := [_, _, _, _]) hX dX8_bestFor_65 rfl li1 rfl rfl ?_
      refine v_goto (tgt := 4) hX dX8_bestFor_68 rfl ?_
      exact V.at rfl (by rw [nI_1, tw_bst1, if_neg c_17]) rfl ih
    · refine v_aload_n hX dX8_bestFor_20 rfl ?_
      refine v_iload_n hX dX8_bestFor_21 rfl ?_
      refine tv_callR hX rfl dX8_bestFor_22 q2345 cf_X8_isReserved hw (mX8_isReserved hw hP _) rfl ⟨rfl, rfl⟩ ⟨Nat.le_of_ble_eq_true rfl, Nat.le_of_ble_eq_true rfl⟩ rfl (Nat.le_of_ble_eq_true rfl) ⟨Nat.le_of_ble_eq_true rfl, Nat.le_of_ble_eq_true rfl⟩ ?_
      refine v_ifb_ne (tgt := 65) hX dX8_bestFor_25 rfl (fun c_25 => ?_) (fun c_25 => ?_)
      · refine v_iinc (lv' := [_, _, _, _]) hX dX8_bestFor_65 rfl li1 rfl rfl ?_
        refine v_goto (tgt := 4) hX dX8_bestFor_68 rfl ?_
        exact V.at rfl (by rw [nI_1, tw_bst1, if_pos c_17, if_pos c_25]) rfl ih
      · refine v_aload_n hX dX8_bestFor_28 rfl ?_
        refine v_iload_n hX dX8_bestFor_29 rfl ?_
        refine tv_callR hX rfl dX8_bestFor_30 q2349 cf_X8_ripening hw (mX8_ripening hw hP _ hbi) rfl ⟨rfl, rfl⟩ ⟨Nat.le_of_ble_eq_true rfl, Nat.le_of_ble_eq_true rfl⟩ rfl (Nat.le_of_ble_eq_true rfl) ⟨Nat.le_of_ble_eq_true rfl, Nat.le_of_ble_eq_true rfl⟩ ?_
        refine v_aload_n hX dX8_bestFor_33 rfl ?_
        refine v_iload_n hX dX8_bestFor_34 rfl ?_
        refine v_iload_n hX dX8_bestFor_35 rfl ?_
        refine tv_callR hX rfl dX8_bestFor_36 q2364 cf_X8_heating hw (mX8_heating hw hP _ _ hd hbi) rfl ⟨rfl, rfl⟩ ⟨Nat.le_of_ble_eq_true rfl, Nat.le_of_ble_eq_true rfl⟩ rfl (Nat.le_of_ble_eq_true rfl) ⟨Nat.le_of_ble_eq_true rfl, Nat.le_of_ble_eq_true rfl⟩ ?_
        refine v_icmp_le (tgt := 45) hX dX8_bestFor_39 rfl (fun c_39 => ?_) (fun c_39 => ?_)
        · refine v_iload_n hX dX8_bestFor_45 rfl ?_
          refine v_iconst hX dX8_bestFor_46 lim1 ?_
          refine v_icmp_eq (tgt := 63) hX dX8_bestFor_47 rfl (fun c_47 => ?_) (fun c_47 => ?_)
          · refine v_iload_n hX dX8_bestFor_63 rfl ?_
            refine v_istore_n (lv' := [_, _, _, _]) hX dX8_bestFor_64 (Nat.le_of_ble_eq_true rfl) rfl rfl ?_
            refine v_iinc (lv' := [_, _, _, _]) hX dX8_bestFor_65 rfl li1 rfl rfl ?_
            refine v_goto (tgt := 4) hX dX8_bestFor_68 rfl ?_
            exact V.at rfl (by rw [nI_1, tw_bst1, if_pos c_17, if_neg c_25, if_pos c_39, if_pos c_47]) rfl ih
          · refine v_aload_n hX dX8_bestFor_50 rfl ?_
            refine v_iload_n hX dX8_bestFor_51 rfl ?_
            refine tv_callR hX rfl dX8_bestFor_52 q2371 cf_X8_rank hw (mX8_rank hw hP _ hbi) rfl ⟨rfl, rfl⟩ ⟨Nat.le_of_ble_eq_true rfl, Nat.le_of_ble_eq_true rfl⟩ rfl (Nat.le_of_ble_eq_true rfl) ⟨Nat.le_of_ble_eq_true rfl, Nat.le_of_ble_eq_true rfl⟩ ?_
            refine v_aload_n hX dX8_bestFor_55 rfl ?_
            refine v_iload_n hX dX8_bestFor_56 rfl ?_
            refine tv_callR hX rfl dX8_bestFor_57 q2371 cf_X8_rank hw (mX8_rank hw hP _ (hbo.resolve_left c_47)) rfl ⟨rfl, rfl⟩ ⟨Nat.le_of_ble_eq_true rfl, Nat.le_of_ble_eq_true rfl⟩ rfl (Nat.le_of_ble_eq_true rfl) ⟨Nat.le_of_ble_eq_true rfl, Nat.le_of_ble_eq_true rfl⟩ ?_
            refine v_icmp_ge (tgt := 65) hX dX8_bestFor_60 rfl (fun c_60 => ?_) (fun c_60 => ?_)
            · refine v_iinc (lv' := [_, _, _, _]) hX dX8_bestFor_65 rfl li1 rfl rfl ?_
              refine v_goto (tgt := 4) hX dX8_bestFor_68 rfl ?_
              exact V.at rfl (by rw [nI_1, tw_bst1, if_pos c_17, if_neg c_25, if_pos c_39, if_neg c_47, if_pos c_60]) rfl ih
            · refine v_iload_n hX dX8_bestFor_63 rfl ?_
              refine v_istore_n (lv' := [_, _, _, _]) hX dX8_bestFor_64 (Nat.le_of_ble_eq_true rfl) rfl rfl ?_
              refine v_iinc (lv' := [_, _, _, _]) hX dX8_bestFor_65 rfl li1 rfl rfl ?_
              refine v_goto (tgt := 4) hX dX8_bestFor_68 rfl ?_
              exact V.at rfl (by rw [nI_1, tw_bst1, if_pos c_17, if_neg c_25, if_pos c_39, if_neg c_47, if_neg c_60]) rfl ih
        · refine v_goto (tgt := 65) hX dX8_bestFor_42 rfl ?_
          refine v_iinc (lv' := [_, _, _, _]) hX dX8_bestFor_65 rfl li1 rfl rfl ?_
          refine v_goto (tgt := 4) hX dX8_bestFor_68 rfl ?_
          exact V.at rfl (by rw [nI_1, tw_bst1, if_pos c_17, if_neg c_25, if_neg c_39]) rfl ih
