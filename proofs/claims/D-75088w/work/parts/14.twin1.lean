/-! the twin: small methods -/
set_option maxRecDepth 100000
theorem lb8 : (Int8.ofInt (8)).toInt32 = 8 := by decide +kernel
theorem lb9 : (Int8.ofInt (9)).toInt32 = 9 := by decide +kernel
theorem lb20 : (Int8.ofInt (20)).toInt32 = 20 := by decide +kernel
theorem lb30 : (Int8.ofInt (30)).toInt32 = 30 := by decide +kernel
theorem lb90 : (Int8.ofInt (90)).toInt32 = 90 := by decide +kernel
theorem li0 : Int32.ofInt (0) = 0 := by decide +kernel
theorem li1 : Int32.ofInt (1) = 1 := by decide +kernel
theorem li2 : Int32.ofInt (2) = 2 := by decide +kernel
theorem li3 : Int32.ofInt (3) = 3 := by decide +kernel
theorem li4 : Int32.ofInt (4) = 4 := by decide +kernel
theorem ls1439 : (Int16.ofInt (1439)).toInt32 = 1439 := by decide +kernel
theorem cf_X8_thrown : CF RX8 yX8_thrown cX8_thrown 1 (some .int) 0 := ⟨q2096, q2097, q150, q2098, by decide +kernel⟩
theorem mX8_thrown {Γ : Gm} {l : Launch} {G : Nat → Nat} {wB : Wd} {x : TS} {w : Wd} (hw : tW Γ G wB x w)  : MRd Γ l yX8_thrown (ws_ yX8_thrown cX8_thrown 1 (some .int)) (rl 0 0 0) [.ref (G 61)] w (.int (x.1 0)) := by
  refine M0.of (lv := [some (.ref (G 61))]) (by decide) (Nat.le_of_ble_eq_true rfl) 0 rfl rfl ?_
  intro X hX hR hl hG hnm
  subst hl; subst hG
  refine v_aload_n hX dX8_thrown_0 rfl ?_
  refine tv_getI hX dX8_thrown_1 hw 0 (by decide) rfl q1909 ?_
  exact v_iret hX dX8_thrown_4 hR (Nat.le_of_ble_eq_true rfl) (Nat.le_of_ble_eq_true rfl) (⟨rfl, rfl⟩)
theorem cs_X8_isIn : CS yX8_isIn cX8_isIn 3 (some .boolean) 3 := ⟨q2116, q150, q2117, by decide +kernel⟩
theorem mX8_isIn {Γ : Gm} {l : Launch} {w : Wd} (a b c : Int32) : MRd Γ l yX8_isIn (ws_ yX8_isIn cX8_isIn 3 (some .boolean)) (rl 0 0 0) [.int a, .int b, .int c] w (.int (bi (b ≤ a ∧ a ≤ c))) := by
  refine M0.of (lv := [some (.int a), some (.int b), some (.int c)]) (by decide) (Nat.le_of_ble_eq_true rfl) 0 rfl rfl ?_
  intro X hX hR hl hG hnm
  subst hl; subst hG
  refine v_iload_n hX dX8_isIn_0 rfl ?_
  refine v_iload_n hX dX8_isIn_1 rfl ?_
  refine v_icmp_lt (tgt := 14) hX dX8_isIn_2 rfl (fun c_2 => ?_) (fun c_2 => ?_)
  · refine v_iconst hX dX8_isIn_14 li0 ?_
    exact v_zret hX dX8_isIn_15 hR (Nat.le_of_ble_eq_true rfl) (Nat.le_of_ble_eq_true rfl) (rfl) (⟨by rw [show bi (b ≤ a ∧ a ≤ c) = _ from by first | exact bi_t ⟨Int32.not_lt.mp c_2, Int32.not_lt.mp c_7⟩ | exact bi_f (fun h => absurd h.1 (Int32.not_le.mpr c_2)) | exact bi_f (fun h => absurd h.2 (Int32.not_le.mpr c_7))], rfl⟩)
  · refine v_iload_n hX dX8_isIn_5 rfl ?_
    refine v_iload_n hX dX8_isIn_6 rfl ?_
    refine v_icmp_gt (tgt := 14) hX dX8_isIn_7 rfl (fun c_7 => ?_) (fun c_7 => ?_)
    · refine v_iconst hX dX8_isIn_14 li0 ?_
      exact v_zret hX dX8_isIn_15 hR (Nat.le_of_ble_eq_true rfl) (Nat.le_of_ble_eq_true rfl) (rfl) (⟨by rw [show bi (b ≤ a ∧ a ≤ c) = _ from by first | exact bi_t ⟨Int32.not_lt.mp c_2, Int32.not_lt.mp c_7⟩ | exact bi_f (fun h => absurd h.1 (Int32.not_le.mpr c_2)) | exact bi_f (fun h => absurd h.2 (Int32.not_le.mpr c_7))], rfl⟩)
    · refine v_iconst hX dX8_isIn_10 li1 ?_
      refine v_goto (tgt := 15) hX dX8_isIn_11 rfl ?_
      exact v_zret hX dX8_isIn_15 hR (Nat.le_of_ble_eq_true rfl) (Nat.le_of_ble_eq_true rfl) (rfl) (⟨by rw [show bi (b ≤ a ∧ a ≤ c) = _ from by first | exact bi_t ⟨Int32.not_lt.mp c_2, Int32.not_lt.mp c_7⟩ | exact bi_f (fun h => absurd h.1 (Int32.not_le.mpr c_2)) | exact bi_f (fun h => absurd h.2 (Int32.not_le.mpr c_7))], rfl⟩)
theorem cf_X8_get : CF RX8 yX8_get cX8_get 2 (some .int) 1 := ⟨q2231, qs65, q150, q2232, by decide +kernel⟩
theorem mX8_get {Γ : Gm} {l : Launch} {G : Nat → Nat} {wB : Wd} {x : TS} {w : Wd} (hw : tW Γ G wB x w) (i : Int32) (hi : vp_in (x.1 2 + i) 840) : MRd Γ l yX8_get (ws_ yX8_get cX8_get 2 (some .int)) (rl 0 0 0) [.ref (G 61), .int i] w (.int (tG x i)) := by
  refine M0.of (lv := [some (.ref (G 61)), some (.int i)]) (by decide) (Nat.le_of_ble_eq_true rfl) 0 rfl rfl ?_
  intro X hX hR hl hG hnm
  subst hl; subst hG
  refine v_aload_n hX dX8_get_0 rfl ?_
  refine tv_getA hX dX8_get_1 hw 1 (by decide) rfl q1910 ?_
  refine v_aload_n hX dX8_get_4 rfl ?_
  refine tv_getI hX dX8_get_5 hw 2 (by decide) rfl q1911 ?_
  refine v_iload_n hX dX8_get_8 rfl ?_
  refine v_iadd hX dX8_get_9 ?_
  refine tv_iald hX dX8_get_10 hw (by decide) rfl rfl (by assumption) ?_
  exact v_iret hX dX8_get_11 hR (Nat.le_of_ble_eq_true rfl) (Nat.le_of_ble_eq_true rfl) (⟨rfl, rfl⟩)
theorem cf_X8_set : CF RX8 yX8_set cX8_set 3 none 2 := ⟨q2550, qs110, q150, q2551, by decide +kernel⟩
theorem mX8_set {Γ : Gm} {l : Launch} {G : Nat → Nat} {wB : Wd} {x : TS} {w : Wd} (hw : tW Γ G wB x w) (i v : Int32) (hi : vp_in (x.1 2 + i) 840) : M0 Γ l yX8_set (ws_ yX8_set cX8_set 3 none) (rl 0 0 0) 0 0 [.ref (G 61), .int i, .int v] w (fun r9 w9 => r9 = none ∧ tW Γ G wB (tU x 1 (x.1 2 + i) v) w9) := by
  refine M0.of (lv := [some (.ref (G 61)), some (.int i), some (.int v)]) (by decide) (Nat.le_of_ble_eq_true rfl) 0 rfl rfl ?_
  intro X hX hR hl hG hnm
  subst hl; subst hG
  refine v_aload_n hX dX8_set_0 rfl ?_
  refine tv_getA hX dX8_set_1 hw 1 (by decide) rfl q1910 ?_
  refine v_aload_n hX dX8_set_4 rfl ?_
  refine tv_getI hX dX8_set_5 hw 2 (by decide) rfl q1911 ?_
  refine v_iload_n hX dX8_set_8 rfl ?_
  refine v_iadd hX dX8_set_9 ?_
  refine v_iload_n hX dX8_set_10 rfl ?_
  refine tv_iast hX dX8_set_11 hw (by decide) rfl rfl (by assumption) (fun w hw => ?_)
  exact v_vret hX dX8_set_12 hR (Nat.le_of_ble_eq_true rfl) (Nat.le_of_ble_eq_true rfl) (⟨rfl, hw⟩)
theorem cf_X8_batch : CF RX8 yX8_batch cX8_batch 3 (some .int) 2 := ⟨q2271, qs69, q150, q2272, by decide +kernel⟩
theorem mX8_batch {Γ : Gm} {l : Launch} {G : Nat → Nat} {wB : Wd} {x : TS} {w : Wd} (hw : tW Γ G wB x w) (b i : Int32) (hi : vp_in (x.1 2 + 9 + 3 * b + i) 840) : MRd Γ l yX8_batch (ws_ yX8_batch cX8_batch 3 (some .int)) (rl 0 0 0) [.ref (G 61), .int b, .int i] w (.int (tB x b i)) := by
  refine M0.of (lv := [some (.ref (G 61)), some (.int b), some (.int i)]) (by decide) (Nat.le_of_ble_eq_true rfl) 0 rfl rfl ?_
  intro X hX hR hl hG hnm
  subst hl; subst hG
  refine v_aload_n hX dX8_batch_0 rfl ?_
  refine tv_getA hX dX8_batch_1 hw 1 (by decide) rfl q1910 ?_
  refine v_aload_n hX dX8_batch_4 rfl ?_
  refine tv_getI hX dX8_batch_5 hw 2 (by decide) rfl q1911 ?_
  refine v_bipush hX dX8_batch_8 lb9 ?_
  refine v_iadd hX dX8_batch_10 ?_
  refine v_iconst hX dX8_batch_11 li3 ?_
  refine v_iload_n hX dX8_batch_12 rfl ?_
  refine v_imul hX dX8_batch_13 ?_
  refine v_iadd hX dX8_batch_14 ?_
  refine v_iload_n hX dX8_batch_15 rfl ?_
  refine v_iadd hX dX8_batch_16 ?_
  refine tv_iald hX dX8_batch_17 hw (by decide) rfl rfl (by assumption) ?_
  exact v_iret hX dX8_batch_18 hR (Nat.le_of_ble_eq_true rfl) (Nat.le_of_ble_eq_true rfl) (⟨rfl, rfl⟩)
theorem cf_X8_setBatch : CF RX8 yX8_setBatch cX8_setBatch 4 none 3 := ⟨q2526, qs105, q150, q2527, by decide +kernel⟩
theorem mX8_setBatch {Γ : Gm} {l : Launch} {G : Nat → Nat} {wB : Wd} {x : TS} {w : Wd} (hw : tW Γ G wB x w) (b i v : Int32) (hi : vp_in (x.1 2 + 9 + 3 * b + i) 840) : M0 Γ l yX8_setBatch (ws_ yX8_setBatch cX8_setBatch 4 none) (rl 0 0 0) 0 0 [.ref (G 61), .int b, .int i, .int v] w (fun r9 w9 => r9 = none ∧ tW Γ G wB (tU x 1 (x.1 2 + 9 + 3 * b + i) v) w9) := by
  refine M0.of (lv := [some (.ref (G 61)), some (.int b), some (.int i), some (.int v)]) (by decide) (Nat.le_of_ble_eq_true rfl) 0 rfl rfl ?_
  intro X hX hR hl hG hnm
  subst hl; subst hG
  refine v_aload_n hX dX8_setBatch_0 rfl ?_
  refine tv_getA hX dX8_setBatch_1 hw 1 (by decide) rfl q1910 ?_
  refine v_aload_n hX dX8_setBatch_4 rfl ?_
  refine tv_getI hX dX8_setBatch_5 hw 2 (by decide) rfl q1911 ?_
  refine v_bipush hX dX8_setBatch_8 lb9 ?_
  refine v_iadd hX dX8_setBatch_10 ?_
  refine v_iconst hX dX8_setBatch_11 li3 ?_
  refine v_iload_n hX dX8_setBatch_12 rfl ?_
  refine v_imul hX dX8_setBatch_13 ?_
  refine v_iadd hX dX8_setBatch_14 ?_
  refine v_iload_n hX dX8_setBatch_15 rfl ?_
  refine v_iadd hX dX8_setBatch_16 ?_
  refine v_iload_n hX dX8_setBatch_17 rfl ?_
  refine tv_iast hX dX8_setBatch_18 hw (by decide) rfl rfl (by assumption) (fun w hw => ?_)
  exact v_vret hX dX8_setBatch_19 hR (Nat.le_of_ble_eq_true rfl) (Nat.le_of_ble_eq_true rfl) (⟨rfl, hw⟩)
theorem cf_X8_fails : CF RX8 yX8_fails cX8_fails 2 (some .int) 1 := ⟨q2105, qs40, q150, q2106, by decide +kernel⟩
theorem mX8_fails {Γ : Gm} {l : Launch} {G : Nat → Nat} {wB : Wd} {x : TS} {w : Wd} (hw : tW Γ G wB x w) (i : Int32) : M0 Γ l yX8_fails (ws_ yX8_fails cX8_fails 2 (some .int)) (rl 0 0 0) 0 0 [.ref (G 61), .int i] w (fun r9 w9 => r9 = some (.int 0) ∧ tW Γ G wB (sI x 0 i) w9) := by
  refine M0.of (lv := [some (.ref (G 61)), some (.int i)]) (by decide) (Nat.le_of_ble_eq_true rfl) 0 rfl rfl ?_
  intro X hX hR hl hG hnm
  subst hl; subst hG
  refine v_aload_n hX dX8_fails_0 rfl ?_
  refine v_iload_n hX dX8_fails_1 rfl ?_
  refine tv_putI hX dX8_fails_2 hw 0 (by decide) rfl q1909 rfl (by decide +kernel) (fun w hw => ?_)
  refine v_iconst hX dX8_fails_5 li0 ?_
  exact v_iret hX dX8_fails_6 hR (Nat.le_of_ble_eq_true rfl) (Nat.le_of_ble_eq_true rfl) (⟨rfl, hw⟩)
theorem cf_X8_many : CF RX8 yX8_many cX8_many 1 (some .int) 0 := ⟨q2227, qs64, q150, q2228, by decide +kernel⟩
theorem mX8_many {Γ : Gm} {l : Launch} {G : Nat → Nat} {wB : Wd} {x : TS} {w : Wd} (hw : tW Γ G wB x w) (hP : tP x) : MRd Γ l yX8_many (ws_ yX8_many cX8_many 1 (some .int)) (rl 1 0 0) [.ref (G 61)] w (.int (tG x 8)) := by
  refine M0.of (lv := [some (.ref (G 61))]) (by decide) (Nat.le_of_ble_eq_true rfl) 0 rfl rfl ?_
  intro X hX hR hl hG hnm
  subst hl; subst hG
  refine v_aload_n hX dX8_many_0 rfl ?_
  refine v_bipush hX dX8_many_1 lb8 ?_
  refine tv_callR hX rfl dX8_many_3 q2229 cf_X8_get hw (mX8_get hw _ (gidx hP (vin (by decide)))) rfl ⟨rfl, rfl⟩ ⟨Nat.le_of_ble_eq_true rfl, Nat.le_of_ble_eq_true rfl⟩ rfl (Nat.le_of_ble_eq_true rfl) ⟨Nat.le_of_ble_eq_true rfl, Nat.le_of_ble_eq_true rfl⟩ ?_
  exact v_iret hX dX8_many_6 hR (Nat.le_of_ble_eq_true rfl) (Nat.le_of_ble_eq_true rfl) (⟨rfl, rfl⟩)
theorem cf_X8_isBatch : CF RX8 yX8_isBatch cX8_isBatch 2 (some .boolean) 1 := ⟨q2267, qs68, q150, q2268, by decide +kernel⟩
theorem mX8_isBatch {Γ : Gm} {l : Launch} {G : Nat → Nat} {wB : Wd} {x : TS} {w : Wd} (hw : tW Γ G wB x w) (hP : tP x) (b : Int32) : MRd Γ l yX8_isBatch (ws_ yX8_isBatch cX8_isBatch 2 (some .boolean)) (rl 2 0 0) [.ref (G 61), .int b] w (.int (bi (0 ≤ b ∧ b ≤ tG x 8 - 1))) := by
  refine M0.of (lv := [some (.ref (G 61)), some (.int b)]) (by decide) (Nat.le_of_ble_eq_true rfl) 0 rfl rfl ?_
  intro X hX hR hl hG hnm
  subst hl; subst hG
  refine v_iload_n hX dX8_isBatch_0 rfl ?_
  refine v_iconst hX dX8_isBatch_1 li0 ?_
  refine v_aload_n hX dX8_isBatch_2 rfl ?_
  refine tv_callR hX rfl dX8_isBatch_3 q2225 cf_X8_many hw (mX8_many hw hP) rfl ⟨rfl, rfl⟩ ⟨Nat.le_of_ble_eq_true rfl, Nat.le_of_ble_eq_true rfl⟩ rfl (Nat.le_of_ble_eq_true rfl) ⟨Nat.le_of_ble_eq_true rfl, Nat.le_of_ble_eq_true rfl⟩ ?_
  refine v_iconst hX dX8_isBatch_6 li1 ?_
  refine v_isub hX dX8_isBatch_7 ?_
  refine v_callSr hX rfl dX8_isBatch_8 q2115 cs_X8_isIn (mX8_isIn _ _ _) rfl ⟨rfl, rfl⟩ ⟨Nat.le_of_ble_eq_true rfl, Nat.le_of_ble_eq_true rfl⟩ rfl (Nat.le_of_ble_eq_true rfl) ⟨Nat.le_of_ble_eq_true rfl, Nat.le_of_ble_eq_true rfl⟩ ?_
  exact v_zret hX dX8_isBatch_11 hR (Nat.le_of_ble_eq_true rfl) (Nat.le_of_ble_eq_true rfl) (bi_nar) (⟨rfl, rfl⟩)
theorem cf_X8_isProduct : CF RX8 yX8_isProduct cX8_isProduct 2 (some .boolean) 1 := ⟨q2582, qs114, q150, q2583, by decide +kernel⟩
theorem mX8_isProduct {Γ : Gm} {l : Launch} {G : Nat → Nat} {wB : Wd} {x : TS} {w : Wd} (hw : tW Γ G wB x w) (b : Int32) : MRd Γ l yX8_isProduct (ws_ yX8_isProduct cX8_isProduct 2 (some .boolean)) (rl 1 0 0) [.ref (G 61), .int b] w (.int (bi (0 ≤ b ∧ b ≤ x.1 5 - 1))) := by
  refine M0.of (lv := [some (.ref (G 61)), some (.int b)]) (by decide) (Nat.le_of_ble_eq_true rfl) 0 rfl rfl ?_
  intro X hX hR hl hG hnm
  subst hl; subst hG
  refine v_iload_n hX dX8_isProduct_0 rfl ?_
  refine v_iconst hX dX8_isProduct_1 li0 ?_
  refine v_aload_n hX dX8_isProduct_2 rfl ?_
  refine tv_getI hX dX8_isProduct_3 hw 5 (by decide) rfl q1914 ?_
  refine v_iconst hX dX8_isProduct_6 li1 ?_
  refine v_isub hX dX8_isProduct_7 ?_
  refine v_callSr hX rfl dX8_isProduct_8 q2115 cs_X8_isIn (mX8_isIn _ _ _) rfl ⟨rfl, rfl⟩ ⟨Nat.le_of_ble_eq_true rfl, Nat.le_of_ble_eq_true rfl⟩ rfl (Nat.le_of_ble_eq_true rfl) ⟨Nat.le_of_ble_eq_true rfl, Nat.le_of_ble_eq_true rfl⟩ ?_
  exact v_zret hX dX8_isProduct_11 hR (Nat.le_of_ble_eq_true rfl) (Nat.le_of_ble_eq_true rfl) (bi_nar) (⟨rfl, rfl⟩)
theorem cf_X8_isWave : CF RX8 yX8_isWave cX8_isWave 2 (some .boolean) 1 := ⟨q2255, qs66, q150, q2256, by decide +kernel⟩
theorem mX8_isWave {Γ : Gm} {l : Launch} {G : Nat → Nat} {wB : Wd} {x : TS} {w : Wd} (hw : tW Γ G wB x w) (b : Int32) : MRd Γ l yX8_isWave (ws_ yX8_isWave cX8_isWave 2 (some .boolean)) (rl 1 0 0) [.ref (G 61), .int b] w (.int (bi (0 ≤ b ∧ b ≤ x.1 13 - 1))) := by
  refine M0.of (lv := [some (.ref (G 61)), some (.int b)]) (by decide) (Nat.le_of_ble_eq_true rfl) 0 rfl rfl ?_
  intro X hX hR hl hG hnm
  subst hl; subst hG
  refine v_iload_n hX dX8_isWave_0 rfl ?_
  refine v_iconst hX dX8_isWave_1 li0 ?_
  refine v_aload_n hX dX8_isWave_2 rfl ?_
  refine tv_getI hX dX8_isWave_3 hw 13 (by decide) rfl q1922 ?_
  refine v_iconst hX dX8_isWave_6 li1 ?_
  refine v_isub hX dX8_isWave_7 ?_
  refine v_callSr hX rfl dX8_isWave_8 q2115 cs_X8_isIn (mX8_isIn _ _ _) rfl ⟨rfl, rfl⟩ ⟨Nat.le_of_ble_eq_true rfl, Nat.le_of_ble_eq_true rfl⟩ rfl (Nat.le_of_ble_eq_true rfl) ⟨Nat.le_of_ble_eq_true rfl, Nat.le_of_ble_eq_true rfl⟩ ?_
  exact v_zret hX dX8_isWave_11 hR (Nat.le_of_ble_eq_true rfl) (Nat.le_of_ble_eq_true rfl) (bi_nar) (⟨rfl, rfl⟩)
theorem cf_X8_isDeck : CF RX8 yX8_isDeck cX8_isDeck 2 (some .boolean) 1 := ⟨q2482, qs101, q150, q2483, by decide +kernel⟩
theorem mX8_isDeck {Γ : Gm} {l : Launch} {G : Nat → Nat} {wB : Wd} {x : TS} {w : Wd} (hw : tW Γ G wB x w) (hP : tP x) (b : Int32) : MRd Γ l yX8_isDeck (ws_ yX8_isDeck cX8_isDeck 2 (some .boolean)) (rl 1 0 0) [.ref (G 61), .int b] w (.int (bi (0 ≤ b ∧ b ≤ tG x 1 - 1))) := by
  refine M0.of (lv := [some (.ref (G 61)), some (.int b)]) (by decide) (Nat.le_of_ble_eq_true rfl) 0 rfl rfl ?_
  intro X hX hR hl hG hnm
  subst hl; subst hG
  refine v_iload_n hX dX8_isDeck_0 rfl ?_
  refine v_iconst hX dX8_isDeck_1 li0 ?_
  refine v_aload_n hX dX8_isDeck_2 rfl ?_
  refine v_iconst hX dX8_isDeck_3 li1 ?_
  refine tv_callR hX rfl dX8_isDeck_4 q2229 cf_X8_get hw (mX8_get hw _ (gidx hP (vin (by decide)))) rfl ⟨rfl, rfl⟩ ⟨Nat.le_of_ble_eq_true rfl, Nat.le_of_ble_eq_true rfl⟩ rfl (Nat.le_of_ble_eq_true rfl) ⟨Nat.le_of_ble_eq_true rfl, Nat.le_of_ble_eq_true rfl⟩ ?_
  refine v_iconst hX dX8_isDeck_7 li1 ?_
  refine v_isub hX dX8_isDeck_8 ?_
  refine v_callSr hX rfl dX8_isDeck_9 q2115 cs_X8_isIn (mX8_isIn _ _ _) rfl ⟨rfl, rfl⟩ ⟨Nat.le_of_ble_eq_true rfl, Nat.le_of_ble_eq_true rfl⟩ rfl (Nat.le_of_ble_eq_true rfl) ⟨Nat.le_of_ble_eq_true rfl, Nat.le_of_ble_eq_true rfl⟩ ?_
  exact v_zret hX dX8_isDeck_12 hR (Nat.le_of_ble_eq_true rfl) (Nat.le_of_ble_eq_true rfl) (bi_nar) (⟨rfl, rfl⟩)
theorem cs_X8_isMinute : CS yX8_isMinute cX8_isMinute 1 (some .boolean) 1 := ⟨q2494, q150, q2495, by decide +kernel⟩
theorem mX8_isMinute {Γ : Gm} {l : Launch} {w : Wd} (b : Int32) : MRd Γ l yX8_isMinute (ws_ yX8_isMinute cX8_isMinute 1 (some .boolean)) (rl 1 0 0) [.int b] w (.int (bi (0 ≤ b ∧ b ≤ 1439))) := by
  refine M0.of (lv := [some (.int b)]) (by decide) (Nat.le_of_ble_eq_true rfl) 0 rfl rfl ?_
  intro X hX hR hl hG hnm
  subst hl; subst hG
  refine v_iload_n hX dX8_isMinute_0 rfl ?_
  refine v_iconst hX dX8_isMinute_1 li0 ?_
  refine v_sipush hX dX8_isMinute_2 ls1439 ?_
  refine v_callSr hX rfl dX8_isMinute_5 q2115 cs_X8_isIn (mX8_isIn _ _ _) rfl ⟨rfl, rfl⟩ ⟨Nat.le_of_ble_eq_true rfl, Nat.le_of_ble_eq_true rfl⟩ rfl (Nat.le_of_ble_eq_true rfl) ⟨Nat.le_of_ble_eq_true rfl, Nat.le_of_ble_eq_true rfl⟩ ?_
  exact v_zret hX dX8_isMinute_8 hR (Nat.le_of_ble_eq_true rfl) (Nat.le_of_ble_eq_true rfl) (bi_nar) (⟨rfl, rfl⟩)
def tw_least (i : Int32) : Int32 := if i = 0 then 1 else if i = 1 then 1 else if i = 4 then 2 else if i = 5 then 1 else 0
theorem cs_X8_least : CS yX8_least cX8_least 1 (some .int) 1 := ⟨q2220, q150, q2221, by decide +kernel⟩
theorem mX8_least {Γ : Gm} {l : Launch} {w : Wd} (i : Int32) : MRd Γ l yX8_least (ws_ yX8_least cX8_least 1 (some .int)) (rl 0 0 0) [.int i] w (.int (tw_least i)) := by
  refine M0.of (lv := [some (.int i)]) (by decide) (Nat.le_of_ble_eq_true rfl) 0 rfl rfl ?_
  intro X hX hR hl hG hnm
  subst hl; subst hG
  refine v_iload_n hX dX8_least_0 rfl ?_
  by_cases c_1_0 : i = 0
  · rw [c_1_0]
    refine v_tableIn (tgt := 40) hX dX8_least_1 (by decide) (by decide) rfl rfl ?_
    refine v_iconst hX dX8_least_40 li1 ?_
    exact v_iret hX dX8_least_41 hR (Nat.le_of_ble_eq_true rfl) (Nat.le_of_ble_eq_true rfl) (⟨by first | (rw [tw_least]; simp [*]; done) | simp [tw_least, *], rfl⟩)
  by_cases c_1_1 : i = 1
  · rw [c_1_1]
    refine v_tableIn (tgt := 42) hX dX8_least_1 (by decide) (by decide) rfl rfl ?_
    refine v_iconst hX dX8_least_42 li1 ?_
    exact v_iret hX dX8_least_43 hR (Nat.le_of_ble_eq_true rfl) (Nat.le_of_ble_eq_true rfl) (⟨by first | (rw [tw_least]; simp [*]; done) | simp [tw_least, *], rfl⟩)
  by_cases c_1_2 : i = 2
  · rw [c_1_2]
    refine v_tableIn (tgt := 48) hX dX8_least_1 (by decide) (by decide) rfl rfl ?_
    refine v_iconst hX dX8_least_48 li0 ?_
    exact v_iret hX dX8_least_49 hR (Nat.le_of_ble_eq_true rfl) (Nat.le_of_ble_eq_true rfl) (⟨by first | (rw [tw_least]; simp [*]; done) | simp [tw_least, *], rfl⟩)
  by_cases c_1_3 : i = 3
  · rw [c_1_3]
    refine v_tableIn (tgt := 48) hX dX8_least_1 (by decide) (by decide) rfl rfl ?_
    refine v_iconst hX dX8_least_48 li0 ?_
    exact v_iret hX dX8_least_49 hR (Nat.le_of_ble_eq_true rfl) (Nat.le_of_ble_eq_true rfl) (⟨by first | (rw [tw_least]; simp [*]; done) | simp [tw_least, *], rfl⟩)
  by_cases c_1_4 : i = 4
  · rw [c_1_4]
    refine v_tableIn (tgt := 44) hX dX8_least_1 (by decide) (by decide) rfl rfl ?_
    refine v_iconst hX dX8_least_44 li2 ?_
    exact v_iret hX dX8_least_45 hR (Nat.le_of_ble_eq_true rfl) (Nat.le_of_ble_eq_true rfl) (⟨by first | (rw [tw_least]; simp [*]; done) | simp [tw_least, *], rfl⟩)
  by_cases c_1_5 : i = 5
  · rw [c_1_5]
    refine v_tableIn (tgt := 46) hX dX8_least_1 (by decide) (by decide) rfl rfl ?_
    refine v_iconst hX dX8_least_46 li1 ?_
    exact v_iret hX dX8_least_47 hR (Nat.le_of_ble_eq_true rfl) (Nat.le_of_ble_eq_true rfl) (⟨by first | (rw [tw_least]; simp [*]; done) | simp [tw_least, *], rfl⟩)
  refine v_tableOut (tgt := 48) hX dX8_least_1 (by have h_0 := i32_ne (z := 0) c_1_0 (by decide); have h_1 := i32_ne (z := 1) c_1_1 (by decide); have h_2 := i32_ne (z := 2) c_1_2 (by decide); have h_3 := i32_ne (z := 3) c_1_3 (by decide); have h_4 := i32_ne (z := 4) c_1_4 (by decide); have h_5 := i32_ne (z := 5) c_1_5 (by decide); omega) rfl ?_
  refine v_iconst hX dX8_least_48 li0 ?_
  exact v_iret hX dX8_least_49 hR (Nat.le_of_ble_eq_true rfl) (Nat.le_of_ble_eq_true rfl) (⟨by first | (rw [tw_least]; simp [*]; done) | simp [tw_least, *], rfl⟩)
def tw_greatest (i : Int32) : Int32 := if i = 0 then 3 else if i = 1 then 4 else if i = 2 then 8 else if i = 3 then 30 else if i = 4 then 8 else if i = 5 then 20 else 90
theorem cs_X8_greatest : CS yX8_greatest cX8_greatest 1 (some .int) 1 := ⟨q2223, q150, q2224, by decide +kernel⟩
theorem mX8_greatest {Γ : Gm} {l : Launch} {w : Wd} (i : Int32) : MRd Γ l yX8_greatest (ws_ yX8_greatest cX8_greatest 1 (some .int)) (rl 0 0 0) [.int i] w (.int (tw_greatest i)) := by
  refine M0.of (lv := [some (.int i)]) (by decide) (Nat.le_of_ble_eq_true rfl) 0 rfl rfl ?_
  intro X hX hR hl hG hnm
  subst hl; subst hG
  refine v_iload_n hX dX8_greatest_0 rfl ?_
  by_cases c_1_0 : i = 0
  · rw [c_1_0]
    refine v_tableIn (tgt := 40) hX dX8_greatest_1 (by decide) (by decide) rfl rfl ?_
    refine v_iconst hX dX8_greatest_40 li3 ?_
    exact v_iret hX dX8_greatest_41 hR (Nat.le_of_ble_eq_true rfl) (Nat.le_of_ble_eq_true rfl) (⟨by first | (rw [tw_greatest]; simp [*]; done) | simp [tw_greatest, *], rfl⟩)
  by_cases c_1_1 : i = 1
  · rw [c_1_1]
    refine v_tableIn (tgt := 42) hX dX8_greatest_1 (by decide) (by decide) rfl rfl ?_
    refine v_iconst hX dX8_greatest_42 li4 ?_
    exact v_iret hX dX8_greatest_43 hR (Nat.le_of_ble_eq_true rfl) (Nat.le_of_ble_eq_true rfl) (⟨by first | (rw [tw_greatest]; simp [*]; done) | simp [tw_greatest, *], rfl⟩)
  by_cases c_1_2 : i = 2
  · rw [c_1_2]
    refine v_tableIn (tgt := 44) hX dX8_greatest_1 (by decide) (by decide) rfl rfl ?_
    refine v_bipush hX dX8_greatest_44 lb8 ?_
    exact v_iret hX dX8_greatest_46 hR (Nat.le_of_ble_eq_true rfl) (Nat.le_of_ble_eq_true rfl) (⟨by first | (rw [tw_greatest]; simp [*]; done) | simp [tw_greatest, *], rfl⟩)
  by_cases c_1_3 : i = 3
  · rw [c_1_3]
    refine v_tableIn (tgt := 47) hX dX8_greatest_1 (by decide) (by decide) rfl rfl ?_
    refine v_bipush hX dX8_greatest_47 lb30 ?_
    exact v_iret hX dX8_greatest_49 hR (Nat.le_of_ble_eq_true rfl) (Nat.le_of_ble_eq_true rfl) (⟨by first | (rw [tw_greatest]; simp [*]; done) | simp [tw_greatest, *], rfl⟩)
  by_cases c_1_4 : i = 4
  · rw [c_1_4]
    refine v_tableIn (tgt := 50) hX dX8_greatest_1 (by decide) (by decide) rfl rfl ?_
    refine v_bipush hX dX8_greatest_50 lb8 ?_
    exact v_iret hX dX8_greatest_52 hR (Nat.le_of_ble_eq_true rfl) (Nat.le_of_ble_eq_true rfl) (⟨by first | (rw [tw_greatest]; simp [*]; done) | simp [tw_greatest, *], rfl⟩)
  by_cases c_1_5 : i = 5
  · rw [c_1_5]
    refine v_tableIn (tgt := 53) hX dX8_greatest_1 (by decide) (by decide) rfl rfl ?_
    refine v_bipush hX dX8_greatest_53 lb20 ?_
    exact v_iret hX dX8_greatest_55 hR (Nat.le_of_ble_eq_true rfl) (Nat.le_of_ble_eq_true rfl) (⟨by first | (rw [tw_greatest]; simp [*]; done) | simp [tw_greatest, *], rfl⟩)
  refine v_tableOut (tgt := 56) hX dX8_greatest_1 (by have h_0 := i32_ne (z := 0) c_1_0 (by decide); have h_1 := i32_ne (z := 1) c_1_1 (by decide); have h_2 := i32_ne (z := 2) c_1_2 (by decide); have h_3 := i32_ne (z := 3) c_1_3 (by decide); have h_4 := i32_ne (z := 4) c_1_4 (by decide); have h_5 := i32_ne (z := 5) c_1_5 (by decide); omega) rfl ?_
  refine v_bipush hX dX8_greatest_56 lb90 ?_
  exact v_iret hX dX8_greatest_58 hR (Nat.le_of_ble_eq_true rfl) (Nat.le_of_ble_eq_true rfl) (⟨by first | (rw [tw_greatest]; simp [*]; done) | simp [tw_greatest, *], rfl⟩)
theorem cf_X8_productOfBatch : CF RX8 yX8_productOfBatch cX8_productOfBatch 2 (some .int) 1 := ⟨q2327, qs78, q150, q2328, by decide +kernel⟩
theorem mX8_productOfBatch {Γ : Gm} {l : Launch} {G : Nat → Nat} {wB : Wd} {x : TS} {w : Wd} (hw : tW Γ G wB x w) (hP : tP x) (b : Int32) (hb : vp_in b (pn x)) : MRd Γ l yX8_productOfBatch (ws_ yX8_productOfBatch cX8_productOfBatch 2 (some .int)) (rl 1 0 0) [.ref (G 61), .int b] w (.int (tB x b 0)) := by
  refine M0.of (lv := [some (.ref (G 61)), some (.int b)]) (by decide) (Nat.le_of_ble_eq_true rfl) 0 rfl rfl ?_
  intro X hX hR hl hG hnm
  subst hl; subst hG
  refine v_aload_n hX dX8_productOfBatch_0 rfl ?_
  refine v_iload_n hX dX8_productOfBatch_1 rfl ?_
  refine v_iconst hX dX8_productOfBatch_2 li0 ?_
  refine tv_callR hX rfl dX8_productOfBatch_3 q2269 cf_X8_batch hw (mX8_batch hw _ _ (bidx hP hb (vin (by decide)))) rfl ⟨rfl, rfl⟩ ⟨Nat.le_of_ble_eq_true rfl, Nat.le_of_ble_eq_true rfl⟩ rfl (Nat.le_of_ble_eq_true rfl) ⟨Nat.le_of_ble_eq_true rfl, Nat.le_of_ble_eq_true rfl⟩ ?_
  exact v_iret hX dX8_productOfBatch_6 hR (Nat.le_of_ble_eq_true rfl) (Nat.le_of_ble_eq_true rfl) (⟨rfl, rfl⟩)
theorem cf_X8_isProofing : CF RX8 yX8_isProofing cX8_isProofing 2 (some .boolean) 1 := ⟨q2319, qs76, q150, q2320, by decide +kernel⟩
theorem mX8_isProofing {Γ : Gm} {l : Launch} {G : Nat → Nat} {wB : Wd} {x : TS} {w : Wd} (hw : tW Γ G wB x w) (b : Int32) (hb : vp_in b 20) : MRd Γ l yX8_isProofing (ws_ yX8_isProofing cX8_isProofing 2 (some .boolean)) (rl 0 0 0) [.ref (G 61), .int b] w (.int (bi (tA x 32 b = 2 ∨ tA x 32 b = 3))) := by
  refine M0.of (lv := [some (.ref (G 61)), some (.int b)]) (by decide) (Nat.le_of_ble_eq_true rfl) 0 rfl rfl ?_
  intro X hX hR hl hG hnm
  subst hl; subst hG
  refine v_aload_n hX dX8_isProofing_0 rfl ?_
  refine tv_getA hX dX8_isProofing_1 hw 32 (by decide) rfl q1941 ?_
  refine v_iload_n hX dX8_isProofing_4 rfl ?_
  refine tv_iald hX dX8_isProofing_5 hw (by decide) rfl rfl (hb) ?_
  refine v_iconst hX dX8_isProofing_6 li2 ?_
  refine v_icmp_eq (tgt := 20) hX dX8_isProofing_7 rfl (fun c_7 => ?_) (fun c_7 => ?_)
  · refine v_iconst hX dX8_isProofing_20 li1 ?_
    refine v_goto (tgt := 25) hX dX8_isProofing_21 rfl ?_
    exact v_zret hX dX8_isProofing_25 hR (Nat.le_of_ble_eq_true rfl) (Nat.le_of_ble_eq_true rfl) (rfl) (⟨by simp [bi, *], rfl⟩)
  · refine v_aload_n hX dX8_isProofing_10 rfl ?_
    refine tv_getA hX dX8_isProofing_11 hw 32 (by decide) rfl q1941 ?_
    refine v_iload_n hX dX8_isProofing_14 rfl ?_
    refine tv_iald hX dX8_isProofing_15 hw (by decide) rfl rfl (hb) ?_
    refine v_iconst hX dX8_isProofing_16 li3 ?_
    refine v_icmp_ne (tgt := 24) hX dX8_isProofing_17 rfl (fun c_17 => ?_) (fun c_17 => ?_)
    · refine v_iconst hX dX8_isProofing_24 li0 ?_
      exact v_zret hX dX8_isProofing_25 hR (Nat.le_of_ble_eq_true rfl) (Nat.le_of_ble_eq_true rfl) (rfl) (⟨by simp [bi, *], rfl⟩)
    · refine v_iconst hX dX8_isProofing_20 li1 ?_
      refine v_goto (tgt := 25) hX dX8_isProofing_21 rfl ?_
      exact v_zret hX dX8_isProofing_25 hR (Nat.le_of_ble_eq_true rfl) (Nat.le_of_ble_eq_true rfl) (rfl) (⟨by simp [bi, *], rfl⟩)
def tw_ripe (x : TS) (b : Int32) : Int32 := tA x 8 (tB x b 0) * tG x 4
def tw_old (x : TS) (b : Int32) : Int32 := (tA x 8 (tB x b 0) + tA x 9 (tB x b 0)) * tG x 4
theorem cf_X8_ripeParts : CF RX8 yX8_ripeParts cX8_ripeParts 2 (some .int) 1 := ⟨q2359, qs86, q150, q2360, by decide +kernel⟩
theorem mX8_ripeParts {Γ : Gm} {l : Launch} {G : Nat → Nat} {wB : Wd} {x : TS} {w : Wd} (hw : tW Γ G wB x w) (hP : tP x) (b : Int32) (hb : vp_in b (pn x)) : MRd Γ l yX8_ripeParts (ws_ yX8_ripeParts cX8_ripeParts 2 (some .int)) (rl 2 0 0) [.ref (G 61), .int b] w (.int (tw_ripe x b)) := by
  refine M0.of (lv := [some (.ref (G 61)), some (.int b)]) (by decide) (Nat.le_of_ble_eq_true rfl) 0 rfl rfl ?_
  intro X hX hR hl hG hnm
  subst hl; subst hG
  refine v_aload_n hX dX8_ripeParts_0 rfl ?_
  refine tv_getA hX dX8_ripeParts_1 hw 8 (by decide) rfl q1917 ?_
  refine v_aload_n hX dX8_ripeParts_4 rfl ?_
  refine v_iload_n hX dX8_ripeParts_5 rfl ?_
  refine tv_callR hX rfl dX8_ripeParts_6 q2325 cf_X8_productOfBatch hw (mX8_productOfBatch hw hP _ hb) rfl ⟨rfl, rfl⟩ ⟨Nat.le_of_ble_eq_true rfl, Nat.le_of_ble_eq_true rfl⟩ rfl (Nat.le_of_ble_eq_true rfl) ⟨Nat.le_of_ble_eq_true rfl, Nat.le_of_ble_eq_true rfl⟩ ?_
  refine tv_iald hX dX8_ripeParts_9 hw (by decide) rfl rfl (bprod hP hb) ?_
  refine v_aload_n hX dX8_ripeParts_10 rfl ?_
  refine v_iconst hX dX8_ripeParts_11 li4 ?_
  refine tv_callR hX rfl dX8_ripeParts_12 q2229 cf_X8_get hw (mX8_get hw _ (gidx hP (vin (by decide)))) rfl ⟨rfl, rfl⟩ ⟨Nat.le_of_ble_eq_true rfl, Nat.le_of_ble_eq_true rfl⟩ rfl (Nat.le_of_ble_eq_true rfl) ⟨Nat.le_of_ble_eq_true rfl, Nat.le_of_ble_eq_true rfl⟩ ?_
  refine v_imul hX dX8_ripeParts_15 ?_
  exact v_iret hX dX8_ripeParts_16 hR (Nat.le_of_ble_eq_true rfl) (Nat.le_of_ble_eq_true rfl) (⟨rfl, rfl⟩)
theorem cf_X8_oldParts : CF RX8 yX8_oldParts cX8_oldParts 2 (some .int) 1 := ⟨q2323, qs77, q150, q2324, by decide +kernel⟩
theorem mX8_oldParts {Γ : Gm} {l : Launch} {G : Nat → Nat} {wB : Wd} {x : TS} {w : Wd} (hw : tW Γ G wB x w) (hP : tP x) (b : Int32) (hb : vp_in b (pn x)) : MRd Γ l yX8_oldParts (ws_ yX8_oldParts cX8_oldParts 2 (some .int)) (rl 2 0 0) [.ref (G 61), .int b] w (.int (tw_old x b)) := by
  refine M0.of (lv := [some (.ref (G 61)), some (.int b)]) (by decide) (Nat.le_of_ble_eq_true rfl) 0 rfl rfl ?_
  intro X hX hR hl hG hnm
  subst hl; subst hG
  refine v_aload_n hX dX8_oldParts_0 rfl ?_
  refine tv_getA hX dX8_oldParts_1 hw 8 (by decide) rfl q1917 ?_
  refine v_aload_n hX dX8_oldParts_4 rfl ?_
  refine v_iload_n hX dX8_oldParts_5 rfl ?_
  refine tv_callR hX rfl dX8_oldParts_6 q2325 cf_X8_productOfBatch hw (mX8_productOfBatch hw hP _ hb) rfl ⟨rfl, rfl⟩ ⟨Nat.le_of_ble_eq_true rfl, Nat.le_of_ble_eq_true rfl⟩ rfl (Nat.le_of_ble_eq_true rfl) ⟨Nat.le_of_ble_eq_true rfl, Nat.le_of_ble_eq_true rfl⟩ ?_
  refine tv_iald hX dX8_oldParts_9 hw (by decide) rfl rfl (bprod hP hb) ?_
  refine v_aload_n hX dX8_oldParts_10 rfl ?_
  refine tv_getA hX dX8_oldParts_11 hw 9 (by decide) rfl q1918 ?_
  refine v_aload_n hX dX8_oldParts_14 rfl ?_
  refine v_iload_n hX dX8_oldParts_15 rfl ?_
  refine tv_callR hX rfl dX8_oldParts_16 q2325 cf_X8_productOfBatch hw (mX8_productOfBatch hw hP _ hb) rfl ⟨rfl, rfl⟩ ⟨Nat.le_of_ble_eq_true rfl, Nat.le_of_ble_eq_true rfl⟩ rfl (Nat.le_of_ble_eq_true rfl) ⟨Nat.le_of_ble_eq_true rfl, Nat.le_of_ble_eq_true rfl⟩ ?_
  refine tv_iald hX dX8_oldParts_19 hw (by decide) rfl rfl (bprod hP hb) ?_
  refine v_iadd hX dX8_oldParts_20 ?_
  refine v_aload_n hX dX8_oldParts_21 rfl ?_
  refine v_iconst hX dX8_oldParts_22 li4 ?_
  refine tv_callR hX rfl dX8_oldParts_23 q2229 cf_X8_get hw (mX8_get hw _ (gidx hP (vin (by decide)))) rfl ⟨rfl, rfl⟩ ⟨Nat.le_of_ble_eq_true rfl, Nat.le_of_ble_eq_true rfl⟩ rfl (Nat.le_of_ble_eq_true rfl) ⟨Nat.le_of_ble_eq_true rfl, Nat.le_of_ble_eq_true rfl⟩ ?_
  refine v_imul hX dX8_oldParts_26 ?_
  exact v_iret hX dX8_oldParts_27 hR (Nat.le_of_ble_eq_true rfl) (Nat.le_of_ble_eq_true rfl) (⟨rfl, rfl⟩)
theorem cf_X8_isRipe : CF RX8 yX8_isRipe cX8_isRipe 2 (some .boolean) 1 := ⟨q2355, qs85, q150, q2356, by decide +kernel⟩
theorem mX8_isRipe {Γ : Gm} {l : Launch} {G : Nat → Nat} {wB : Wd} {x : TS} {w : Wd} (hw : tW Γ G wB x w) (hP : tP x) (b : Int32) (hb : vp_in b (pn x)) : MRd Γ l yX8_isRipe (ws_ yX8_isRipe cX8_isRipe 2 (some .boolean)) (rl 3 0 0) [.ref (G 61), .int b] w (.int (bi (tw_ripe x b ≤ tA x 33 b))) := by
  refine M0.of (lv := [some (.ref (G 61)), some (.int b)]) (by decide) (Nat.le_of_ble_eq_true rfl) 0 rfl rfl ?_
  intro X hX hR hl hG hnm
  subst hl; subst hG
  refine v_aload_n hX dX8_isRipe_0 rfl ?_
  refine tv_getA hX dX8_isRipe_1 hw 33 (by decide) rfl q1942 ?_
  refine v_iload_n hX dX8_isRipe_4 rfl ?_
  refine tv_iald hX dX8_isRipe_5 hw (by decide) rfl rfl (b20 hP hb) ?_
  refine v_aload_n hX dX8_isRipe_6 rfl ?_
  refine v_iload_n hX dX8_isRipe_7 rfl ?_
  refine tv_callR hX rfl dX8_isRipe_8 q2357 cf_X8_ripeParts hw (mX8_ripeParts hw hP _ hb) rfl ⟨rfl, rfl⟩ ⟨Nat.le_of_ble_eq_true rfl, Nat.le_of_ble_eq_true rfl⟩ rfl (Nat.le_of_ble_eq_true rfl) ⟨Nat.le_of_ble_eq_true rfl, Nat.le_of_ble_eq_true rfl⟩ ?_
  refine v_icmp_lt (tgt := 18) hX dX8_isRipe_11 rfl (fun c_11 => ?_) (fun c_11 => ?_)
  · refine v_iconst hX dX8_isRipe_18 li0 ?_
    exact v_zret hX dX8_isRipe_19 hR (Nat.le_of_ble_eq_true rfl) (Nat.le_of_ble_eq_true rfl) (rfl) (⟨by first | rw [bi_t (Int32.not_lt.mp (by assumption))] | rw [bi_f (Int32.not_le.mpr (by assumption))], rfl⟩)
  · refine v_iconst hX dX8_isRipe_14 li1 ?_
    refine v_goto (tgt := 19) hX dX8_isRipe_15 rfl ?_
    exact v_zret hX dX8_isRipe_19 hR (Nat.le_of_ble_eq_true rfl) (Nat.le_of_ble_eq_true rfl) (rfl) (⟨by first | rw [bi_t (Int32.not_lt.mp (by assumption))] | rw [bi_f (Int32.not_le.mpr (by assumption))], rfl⟩)
theorem cs_X8_quotientUp : CS yX8_quotientUp cX8_quotientUp 2 (some .int) 2 := ⟨q2362, q150, q2363, by decide +kernel⟩
theorem mX8_quotientUp {Γ : Gm} {l : Launch} {w : Wd} (a b : Int32) (hb : ¬ b = 0) : MRd Γ l yX8_quotientUp (ws_ yX8_quotientUp cX8_quotientUp 2 (some .int)) (rl 0 0 0) [.int a, .int b] w (.int ((a + b - 1) / b)) := by
  refine M0.of (lv := [some (.int a), some (.int b)]) (by decide) (Nat.le_of_ble_eq_true rfl) 0 rfl rfl ?_
  intro X hX hR hl hG hnm
  subst hl; subst hG
  refine v_iload_n hX dX8_quotientUp_0 rfl ?_
  refine v_iload_n hX dX8_quotientUp_1 rfl ?_
  refine v_iadd hX dX8_quotientUp_2 ?_
  refine v_iconst hX dX8_quotientUp_3 li1 ?_
  refine v_isub hX dX8_quotientUp_4 ?_
  refine v_iload_n hX dX8_quotientUp_5 rfl ?_
  refine v_idiv hX dX8_quotientUp_6 (by assumption) ?_
  exact v_iret hX dX8_quotientUp_7 hR (Nat.le_of_ble_eq_true rfl) (Nat.le_of_ble_eq_true rfl) (⟨rfl, rfl⟩)
def tw_apart (a b : Int32) : Int32 := if a < b then b - a else a - b
theorem cs_X8_apart : CS yX8_apart cX8_apart 2 (some .int) 2 := ⟨q2369, q150, q2370, by decide +kernel⟩
theorem mX8_apart {Γ : Gm} {l : Launch} {w : Wd} (a b : Int32) : MRd Γ l yX8_apart (ws_ yX8_apart cX8_apart 2 (some .int)) (rl 0 0 0) [.int a, .int b] w (.int (tw_apart a b)) := by
  refine M0.of (lv := [some (.int a), some (.int b)]) (by decide) (Nat.le_of_ble_eq_true rfl) 0 rfl rfl ?_
  intro X hX hR hl hG hnm
  subst hl; subst hG
  refine v_iload_n hX dX8_apart_0 rfl ?_
  refine v_iload_n hX dX8_apart_1 rfl ?_
  refine v_icmp_ge (tgt := 11) hX dX8_apart_2 rfl (fun c_2 => ?_) (fun c_2 => ?_)
  · refine v_iload_n hX dX8_apart_11 rfl ?_
    refine v_iload_n hX dX8_apart_12 rfl ?_
    refine v_isub hX dX8_apart_13 ?_
    exact v_iret hX dX8_apart_14 hR (Nat.le_of_ble_eq_true rfl) (Nat.le_of_ble_eq_true rfl) (⟨by first | rw [tw_apart, if_neg (Int32.not_lt.mpr c_2)] | rw [tw_apart, if_pos (Int32.not_le.mp c_2)], rfl⟩)
  · refine v_iload_n hX dX8_apart_5 rfl ?_
    refine v_iload_n hX dX8_apart_6 rfl ?_
    refine v_isub hX dX8_apart_7 ?_
    refine v_goto (tgt := 14) hX dX8_apart_8 rfl ?_
    exact v_iret hX dX8_apart_14 hR (Nat.le_of_ble_eq_true rfl) (Nat.le_of_ble_eq_true rfl) (⟨by first | rw [tw_apart, if_neg (Int32.not_lt.mpr c_2)] | rw [tw_apart, if_pos (Int32.not_le.mp c_2)], rfl⟩)
