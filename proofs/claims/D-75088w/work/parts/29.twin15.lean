/-! the twin: questions -/
noncomputable section
set_option maxRecDepth 100000
def tw_dy_d (x : TS) : TS := tw_day x
theorem tw_dy_ex : ∃ g : TS → TS, ∀ x, g x = tw_dy_d x := ⟨tw_dy_d, fun _ => rfl⟩
noncomputable def tw_dy : TS → TS := Classical.choose tw_dy_ex
theorem tw_dy_eq (x : TS) : tw_dy x = tw_day x := Classical.choose_spec tw_dy_ex x
def tw_un_d (b : Int32) (x : TS) : TS := tw_unt b x
theorem tw_un_ex : ∃ g : Int32 → TS → TS, ∀ b x, g b x = tw_un_d b x := ⟨tw_un_d, fun _ _ => rfl⟩
noncomputable def tw_un : Int32 → TS → TS := Classical.choose tw_un_ex
theorem tw_un_eq (b : Int32) (x : TS) : tw_un b x = tw_unt b x := Classical.choose_spec tw_un_ex b x
theorem mX8_plays1 {Γ : Gm} {l : Launch} {G : Nat → Nat} {wB : Wd} {x : TS} {w : Wd} (hw : tW Γ G wB x w) (hP : tP x) : M0 Γ l yX8_plays (ws_ yX8_plays cX8_plays 2 none) (rl 8 0 0) 0 0 [.ref (G 61)] w (fun r9 w9 => r9 = none ∧ tW Γ G wB (tw_dy x) w9) := by rw [tw_dy_eq]; exact mX8_plays hw hP
theorem mX8_playsUntil1 {Γ : Gm} {l : Launch} {G : Nat → Nat} {wB : Wd} {x : TS} {w : Wd} (hw : tW Γ G wB x w) (hP : tP x) (b : Int32) (hb : vp_in b 20) : M0 Γ l yX8_playsUntil (ws_ yX8_playsUntil cX8_playsUntil 3 none) (rl 8 0 0) 0 0 [.ref (G 61), .int b] w (fun r9 w9 => r9 = none ∧ tW Γ G wB (tw_un b x) w9) := by rw [tw_un_eq]; exact mX8_playsUntil hw hP b hb
theorem tw_dy_k (x : TS) : tK (tw_dy x) = tK x := by rw [tw_dy_eq]; exact tw_day_k x
theorem tw_un_k (b : Int32) (x : TS) : tK (tw_un b x) = tK x := by rw [tw_un_eq]; exact tw_unt_k b x
theorem isb {x : TS} (hP : tP x) {b : Int32} (h : 0 ≤ b ∧ b ≤ tG x 8 - 1) : vp_in b (pn x) := by
  have h20 := hP.2.1.1
  rw [hP.2.1.2] at h
  obtain ⟨h1, h2⟩ := h
  rw [Int32.le_iff_toInt_le] at h1 h2
  have e0 : (0 : Int32).toInt = 0 := by decide
  have e1 : (nI (pn x) - 1).toInt = (pn x : Int) - 1 := by
    have := pk_sub_toInt (a := pn x) (b := 1) (by omega) (by decide)
    exact this
  rw [e0] at h1
  rw [e1] at h2
  exact vp_in_iff.mpr ⟨h1, by omega⟩
theorem isn {n : Nat} {b v : Int32} (e : v = nI n) (hn : n ≤ 100000) (h : 0 ≤ b ∧ b ≤ v - 1) : vp_in b n := by
  rw [e] at h
  obtain ⟨h1, h2⟩ := h
  rw [Int32.le_iff_toInt_le] at h1 h2
  have e0 : (0 : Int32).toInt = 0 := by decide
  have e1 : (nI n - 1).toInt = (n : Int) - 1 := pk_sub_toInt (a := n) (b := 1) (by omega) (by decide)
  rw [e0] at h1
  rw [e1] at h2
  exact vp_in_iff.mpr ⟨h1, by omega⟩
theorem isK {n : Nat} {b k : Int32} (hk : k.toInt = (n : Int)) (h : 0 ≤ b ∧ b ≤ k) : vp_in b (n + 1) := by
  obtain ⟨h1, h2⟩ := h
  rw [Int32.le_iff_toInt_le] at h1 h2
  have e0 : (0 : Int32).toInt = 0 := by decide
  rw [e0] at h1
  rw [hk] at h2
  exact vp_in_iff.mpr ⟨h1, by omega⟩
abbrev tw_z (x : TS) : TS := sI x 0 0
theorem tPz {x : TS} (hP : tP x) : tP (tw_z x) := hP.k (tK_sI (by decide))
/-- no answer: the kind of failure -/
def tw_f (k : Int32) (x : TS) : Int32 × TS := (0, sI (tw_z x) 0 k)
def tw_wm (v : Int32) (x : TS) : Int32 × TS := if 0 ≤ v ∧ v ≤ (tw_z x).1 13 - 1 then (tA (tw_z x) 14 v, tw_z x) else tw_f 1 x
def tw_told (b i : Int32) (x : TS) : Int32 × TS := if 0 ≤ b ∧ b ≤ tG (tw_z x) 8 - 1 then (tB (tw_z x) b i, tw_z x) else tw_f 1 x
def tw_setg (i : Int32) (x : TS) : Int32 × TS := if 0 ≤ i ∧ i ≤ 6 then (tG (tw_z x) i, tw_z x) else tw_f 1 x
def tw_ofd (j : Nat) (b : Int32) (x : TS) : Int32 × TS := if 0 ≤ b ∧ b ≤ tG (tw_z x) 8 - 1 then (tA (tw_dy (tw_z x)) j b, tw_dy (tw_z x)) else tw_f 1 x
def tw_sta (b : Int32) (x : TS) : Int32 × TS := if 0 ≤ b ∧ b ≤ tG (tw_z x) 8 - 1 then (tw_state (tw_dy (tw_z x)) b, tw_dy (tw_z x)) else tw_f 1 x
def tw_cou (u : Int32) (x : TS) : Int32 × TS := if 0 ≤ u ∧ u ≤ 3 then (tw_num (tw_dy (tw_z x)) u, tw_dy (tw_z x)) else tw_f 1 x
def tw_bgb (m : Int32) (x : TS) : Int32 × TS := if 0 ≤ m ∧ m ≤ tG (tw_z x) 0 - 1 then (tA (tw_dy (tw_z x)) 46 m, tw_dy (tw_z x)) else tw_f 1 x
def tw_dt (j : Nat) (d t : Int32) (x : TS) : Int32 × TS := if 0 ≤ d ∧ d ≤ tG (tw_z x) 1 - 1 then if 0 ≤ t ∧ t ≤ 1439 then (tA (tw_dy (tw_z x)) j (1440 * d + t), tw_dy (tw_z x)) else tw_f 1 x else tw_f 1 x
def tw_mt (j : Nat) (t : Int32) (x : TS) : Int32 × TS := if 0 ≤ t ∧ t ≤ 1439 then (tA (tw_dy (tw_z x)) j t, tw_dy (tw_z x)) else tw_f 1 x
theorem nidx2 {t d : Int32} (ht : vp_in t 1440) (hd : vp_in d 4) : vp_in (1440 * d + t) 5760 := by
  obtain ⟨j, hj, rfl⟩ := vp_in_of hd (by decide)
  exact nidx ht hj
theorem cf_X8_errorOffset : CF RX8 yX8_errorOffset cX8_errorOffset 1 (some .int) 0 := ⟨q2234, q2235, q150, q2236, by decide +kernel⟩
theorem mX8_errorOffset {Γ : Gm} {l : Launch} {G : Nat → Nat} {wB : Wd} {x : TS} {w : Wd} (hw : tW Γ G wB x w)  : M0 Γ l yX8_errorOffset (ws_ yX8_errorOffset cX8_errorOffset 1 (some .int)) (rl 0 0 0) 0 0 [.ref (G 61)] w (fun r9 w9 => r9 = some (.int (x.1 17)) ∧ tW Γ G wB (tw_z x) w9) := by
  refine M0.of (lv := [some (.ref (G 61))]) (by decide) (Nat.le_of_ble_eq_true rfl) 0 rfl rfl ?_
  intro X hX hR hl hG hnm
  subst hl; subst hG
  refine v_aload_n hX dX8_errorOffset_0 rfl ?_
  refine v_iconst hX dX8_errorOffset_1 li0 ?_
  refine tv_putI hX dX8_errorOffset_2 hw 0 (by decide) rfl q1909 rfl (by decide +kernel) (fun w hw => ?_)
  refine v_aload_n hX dX8_errorOffset_5 rfl ?_
  refine tv_getI hX dX8_errorOffset_6 hw 17 (by decide) rfl q1926 ?_
  exact v_iret hX dX8_errorOffset_9 hR (Nat.le_of_ble_eq_true rfl) (Nat.le_of_ble_eq_true rfl) (⟨rfl, hw⟩)
theorem cf_X8_products : CF RX8 yX8_products cX8_products 1 (some .int) 0 := ⟨q2238, q2239, q150, q2240, by decide +kernel⟩
theorem mX8_products {Γ : Gm} {l : Launch} {G : Nat → Nat} {wB : Wd} {x : TS} {w : Wd} (hw : tW Γ G wB x w)  : M0 Γ l yX8_products (ws_ yX8_products cX8_products 1 (some .int)) (rl 0 0 0) 0 0 [.ref (G 61)] w (fun r9 w9 => r9 = some (.int (x.1 5)) ∧ tW Γ G wB (tw_z x) w9) := by
  refine M0.of (lv := [some (.ref (G 61))]) (by decide) (Nat.le_of_ble_eq_true rfl) 0 rfl rfl ?_
  intro X hX hR hl hG hnm
  subst hl; subst hG
  refine v_aload_n hX dX8_products_0 rfl ?_
  refine v_iconst hX dX8_products_1 li0 ?_
  refine tv_putI hX dX8_products_2 hw 0 (by decide) rfl q1909 rfl (by decide +kernel) (fun w hw => ?_)
  refine v_aload_n hX dX8_products_5 rfl ?_
  refine tv_getI hX dX8_products_6 hw 5 (by decide) rfl q1914 ?_
  exact v_iret hX dX8_products_9 hR (Nat.le_of_ble_eq_true rfl) (Nat.le_of_ble_eq_true rfl) (⟨rfl, hw⟩)
theorem cf_X8_waves : CF RX8 yX8_waves cX8_waves 1 (some .int) 0 := ⟨q2242, q2243, q150, q2244, by decide +kernel⟩
theorem mX8_waves {Γ : Gm} {l : Launch} {G : Nat → Nat} {wB : Wd} {x : TS} {w : Wd} (hw : tW Γ G wB x w)  : M0 Γ l yX8_waves (ws_ yX8_waves cX8_waves 1 (some .int)) (rl 0 0 0) 0 0 [.ref (G 61)] w (fun r9 w9 => r9 = some (.int (x.1 13)) ∧ tW Γ G wB (tw_z x) w9) := by
  refine M0.of (lv := [some (.ref (G 61))]) (by decide) (Nat.le_of_ble_eq_true rfl) 0 rfl rfl ?_
  intro X hX hR hl hG hnm
  subst hl; subst hG
  refine v_aload_n hX dX8_waves_0 rfl ?_
  refine v_iconst hX dX8_waves_1 li0 ?_
  refine tv_putI hX dX8_waves_2 hw 0 (by decide) rfl q1909 rfl (by decide +kernel) (fun w hw => ?_)
  refine v_aload_n hX dX8_waves_5 rfl ?_
  refine tv_getI hX dX8_waves_6 hw 13 (by decide) rfl q1922 ?_
  exact v_iret hX dX8_waves_9 hR (Nat.le_of_ble_eq_true rfl) (Nat.le_of_ble_eq_true rfl) (⟨rfl, hw⟩)
theorem cf_X8_batches : CF RX8 yX8_batches cX8_batches 1 (some .int) 0 := ⟨q2246, q2247, q150, q2248, by decide +kernel⟩
theorem mX8_batches {Γ : Gm} {l : Launch} {G : Nat → Nat} {wB : Wd} {x : TS} {w : Wd} (hw : tW Γ G wB x w) (ha : x.1 2 = 0 ∨ x.1 2 = 70) : M0 Γ l yX8_batches (ws_ yX8_batches cX8_batches 1 (some .int)) (rl 2 0 0) 0 0 [.ref (G 61)] w (fun r9 w9 => r9 = some (.int (tG x 8)) ∧ tW Γ G wB (tw_z x) w9) := by
  refine M0.of (lv := [some (.ref (G 61))]) (by decide) (Nat.le_of_ble_eq_true rfl) 0 rfl rfl ?_
  intro X hX hR hl hG hnm
  subst hl; subst hG
  refine v_aload_n hX dX8_batches_0 rfl ?_
  refine v_iconst hX dX8_batches_1 li0 ?_
  refine tv_putI hX dX8_batches_2 hw 0 (by decide) rfl q1909 rfl (by decide +kernel) (fun w hw => ?_)
  refine v_aload_n hX dX8_batches_5 rfl ?_
  refine tv_callR hX rfl dX8_batches_6 q2225 cf_X8_many hw (mX8_many0 hw ha) rfl ⟨rfl, rfl⟩ ⟨Nat.le_of_ble_eq_true rfl, Nat.le_of_ble_eq_true rfl⟩ rfl (Nat.le_of_ble_eq_true rfl) ⟨Nat.le_of_ble_eq_true rfl, Nat.le_of_ble_eq_true rfl⟩ ?_
  exact v_iret hX dX8_batches_9 hR (Nat.le_of_ble_eq_true rfl) (Nat.le_of_ble_eq_true rfl) (⟨rfl, hw⟩)
theorem cf_X8_waveMinute : CF RX8 yX8_waveMinute cX8_waveMinute 2 (some .int) 1 := ⟨q2250, q2251, q150, q2252, by decide +kernel⟩
theorem mX8_waveMinute {Γ : Gm} {l : Launch} {G : Nat → Nat} {wB : Wd} {x : TS} {w : Wd} (hw : tW Γ G wB x w) (v : Int32) (hv : 0 ≤ v ∧ v ≤ x.1 13 - 1 → vp_in v 6) : M0 Γ l yX8_waveMinute (ws_ yX8_waveMinute cX8_waveMinute 2 (some .int)) (rl 2 0 0) 0 0 [.ref (G 61), .int v] w (fun r9 w9 => r9 = some (.int (tw_wm v x).1) ∧ tW Γ G wB ((tw_wm v x).2) w9) := by
  refine M0.of (lv := [some (.ref (G 61)), some (.int v)]) (by decide) (Nat.le_of_ble_eq_true rfl) 0 rfl rfl ?_
  intro X hX hR hl hG hnm
  subst hl; subst hG
  refine v_aload_n hX dX8_waveMinute_0 rfl ?_
  refine v_iconst hX dX8_waveMinute_1 li0 ?_
  refine tv_putI hX dX8_waveMinute_2 hw 0 (by decide) rfl q1909 rfl (by decide +kernel) (fun w hw => ?_)
  refine v_aload_n hX dX8_waveMinute_5 rfl ?_
  refine v_iload_n hX dX8_waveMinute_6 rfl ?_
  refine tv_callR hX rfl dX8_waveMinute_7 q2253 cf_X8_isWave hw (mX8_isWave hw _) rfl ⟨rfl, rfl⟩ ⟨Nat.le_of_ble_eq_true rfl, Nat.le_of_ble_eq_true rfl⟩ rfl (Nat.le_of_ble_eq_true rfl) ⟨Nat.le_of_ble_eq_true rfl, Nat.le_of_ble_eq_true rfl⟩ ?_
  refine v_ifb_eq (tgt := 22) hX dX8_waveMinute_10 rfl (fun c_10 => ?_) (fun c_10 => ?_)
  · refine v_aload_n hX dX8_waveMinute_22 rfl ?_
    refine v_iconst hX dX8_waveMinute_23 li1 ?_
    refine tv_callV hX rfl dX8_waveMinute_24 q2103 cf_X8_fails hw (mX8_fails hw _) rfl ⟨rfl, rfl⟩ ⟨Nat.le_of_ble_eq_true rfl, Nat.le_of_ble_eq_true rfl⟩ rfl (Nat.le_of_ble_eq_true rfl) ⟨Nat.le_of_ble_eq_true rfl, Nat.le_of_ble_eq_true rfl⟩ (fun w hw => ?_)
    exact v_iret hX dX8_waveMinute_27 hR (Nat.le_of_ble_eq_true rfl) (Nat.le_of_ble_eq_true rfl) (⟨(by first | (rw [tw_wm, if_neg c_10]; done) | (rw [tw_wm, if_neg c_10]; rfl)), hw.to (by first | (rw [tw_wm, if_neg c_10]; done) | (rw [tw_wm, if_neg c_10]; rfl))⟩)
  · refine v_aload_n hX dX8_waveMinute_13 rfl ?_
    refine tv_getA hX dX8_waveMinute_14 hw 14 (by decide) rfl q1923 ?_
    refine v_iload_n hX dX8_waveMinute_17 rfl ?_
    refine tv_iald hX dX8_waveMinute_18 hw (by decide) rfl rfl (hv c_10) ?_
    refine v_goto (tgt := 27) hX dX8_waveMinute_19 rfl ?_
    exact v_iret hX dX8_waveMinute_27 hR (Nat.le_of_ble_eq_true rfl) (Nat.le_of_ble_eq_true rfl) (⟨(by first | (rw [tw_wm, if_pos c_10]; done) | (rw [tw_wm, if_pos c_10]; rfl)), hw.to (by first | (rw [tw_wm, if_pos c_10]; done) | (rw [tw_wm, if_pos c_10]; rfl))⟩)
theorem cf_X8_told : CF RX8 yX8_told cX8_told 3 (some .int) 2 := ⟨q2263, qs67, q150, q2264, by decide +kernel⟩
theorem mX8_told {Γ : Gm} {l : Launch} {G : Nat → Nat} {wB : Wd} {x : TS} {w : Wd} (hw : tW Γ G wB x w) (hP : tP x) (b i : Int32) (hi : vp_in i 3) : M0 Γ l yX8_told (ws_ yX8_told cX8_told 3 (some .int)) (rl 3 0 0) 0 0 [.ref (G 61), .int b, .int i] w (fun r9 w9 => r9 = some (.int (tw_told b i x).1) ∧ tW Γ G wB ((tw_told b i x).2) w9) := by
  refine M0.of (lv := [some (.ref (G 61)), some (.int b), some (.int i)]) (by decide) (Nat.le_of_ble_eq_true rfl) 0 rfl rfl ?_
  intro X hX hR hl hG hnm
  subst hl; subst hG
  refine v_aload_n hX dX8_told_0 rfl ?_
  refine v_iconst hX dX8_told_1 li0 ?_
  refine tv_putI hX dX8_told_2 hw 0 (by decide) rfl q1909 rfl (by decide +kernel) (fun w hw => ?_)
  refine v_aload_n hX dX8_told_5 rfl ?_
  refine v_iload_n hX dX8_told_6 rfl ?_
  refine tv_callR hX rfl dX8_told_7 q2265 cf_X8_isBatch hw (mX8_isBatch hw (tPz hP) _) rfl ⟨rfl, rfl⟩ ⟨Nat.le_of_ble_eq_true rfl, Nat.le_of_ble_eq_true rfl⟩ rfl (Nat.le_of_ble_eq_true rfl) ⟨Nat.le_of_ble_eq_true rfl, Nat.le_of_ble_eq_true rfl⟩ ?_
  refine v_ifb_eq (tgt := 22) hX dX8_told_10 rfl (fun c_10 => ?_) (fun c_10 => ?_)
  · refine v_aload_n hX dX8_told_22 rfl ?_
    refine v_iconst hX dX8_told_23 li1 ?_
    refine tv_callV hX rfl dX8_told_24 q2103 cf_X8_fails hw (mX8_fails hw _) rfl ⟨rfl, rfl⟩ ⟨Nat.le_of_ble_eq_true rfl, Nat.le_of_ble_eq_true rfl⟩ rfl (Nat.le_of_ble_eq_true rfl) ⟨Nat.le_of_ble_eq_true rfl, Nat.le_of_ble_eq_true rfl⟩ (fun w hw => ?_)
    exact v_iret hX dX8_told_27 hR (Nat.le_of_ble_eq_true rfl) (Nat.le_of_ble_eq_true rfl) (⟨(by first | (rw [tw_told, if_neg c_10]; done) | (rw [tw_told, if_neg c_10]; rfl)), hw.to (by first | (rw [tw_told, if_neg c_10]; done) | (rw [tw_told, if_neg c_10]; rfl))⟩)
  · refine v_aload_n hX dX8_told_13 rfl ?_
    refine v_iload_n hX dX8_told_14 rfl ?_
    refine v_iload_n hX dX8_told_15 rfl ?_
    refine tv_callR hX rfl dX8_told_16 q2269 cf_X8_batch hw (mX8_batch hw _ _ (bidx (tPz hP) (isb (tPz hP) c_10) hi)) rfl ⟨rfl, rfl⟩ ⟨Nat.le_of_ble_eq_true rfl, Nat.le_of_ble_eq_true rfl⟩ rfl (Nat.le_of_ble_eq_true rfl) ⟨Nat.le_of_ble_eq_true rfl, Nat.le_of_ble_eq_true rfl⟩ ?_
    refine v_goto (tgt := 27) hX dX8_told_19 rfl ?_
    exact v_iret hX dX8_told_27 hR (Nat.le_of_ble_eq_true rfl) (Nat.le_of_ble_eq_true rfl) (⟨(by first | (rw [tw_told, if_pos c_10]; done) | (rw [tw_told, if_pos c_10]; rfl)), hw.to (by first | (rw [tw_told, if_pos c_10]; done) | (rw [tw_told, if_pos c_10]; rfl))⟩)
theorem cf_X8_productOf : CF RX8 yX8_productOf cX8_productOf 2 (some .int) 1 := ⟨q2258, q2259, q150, q2260, by decide +kernel⟩
theorem mX8_productOf {Γ : Gm} {l : Launch} {G : Nat → Nat} {wB : Wd} {x : TS} {w : Wd} (hw : tW Γ G wB x w) (hP : tP x) (b : Int32) : M0 Γ l yX8_productOf (ws_ yX8_productOf cX8_productOf 2 (some .int)) (rl 4 0 0) 0 0 [.ref (G 61), .int b] w (fun r9 w9 => r9 = some (.int (tw_told b 0 x).1) ∧ tW Γ G wB ((tw_told b 0 x).2) w9) := by
  refine M0.of (lv := [some (.ref (G 61)), some (.int b)]) (by decide) (Nat.le_of_ble_eq_true rfl) 0 rfl rfl ?_
  intro X hX hR hl hG hnm
  subst hl; subst hG
  refine v_aload_n hX dX8_productOf_0 rfl ?_
  refine v_iload_n hX dX8_productOf_1 rfl ?_
  refine v_iconst hX dX8_productOf_2 li0 ?_
  refine tv_callV hX rfl dX8_productOf_3 q2261 cf_X8_told hw (mX8_told hw (hP) _ _ (vin (by decide))) rfl ⟨rfl, rfl⟩ ⟨Nat.le_of_ble_eq_true rfl, Nat.le_of_ble_eq_true rfl⟩ rfl (Nat.le_of_ble_eq_true rfl) ⟨Nat.le_of_ble_eq_true rfl, Nat.le_of_ble_eq_true rfl⟩ (fun w hw => ?_)
  exact v_iret hX dX8_productOf_6 hR (Nat.le_of_ble_eq_true rfl) (Nat.le_of_ble_eq_true rfl) (⟨rfl, hw⟩)
theorem cf_X8_startOf : CF RX8 yX8_startOf cX8_startOf 2 (some .int) 1 := ⟨q2274, q2275, q150, q2276, by decide +kernel⟩
theorem mX8_startOf {Γ : Gm} {l : Launch} {G : Nat → Nat} {wB : Wd} {x : TS} {w : Wd} (hw : tW Γ G wB x w) (hP : tP x) (b : Int32) : M0 Γ l yX8_startOf (ws_ yX8_startOf cX8_startOf 2 (some .int)) (rl 4 0 0) 0 0 [.ref (G 61), .int b] w (fun r9 w9 => r9 = some (.int (tw_told b 1 x).1) ∧ tW Γ G wB ((tw_told b 1 x).2) w9) := by
  refine M0.of (lv := [some (.ref (G 61)), some (.int b)]) (by decide) (Nat.le_of_ble_eq_true rfl) 0 rfl rfl ?_
  intro X hX hR hl hG hnm
  subst hl; subst hG
  refine v_aload_n hX dX8_startOf_0 rfl ?_
  refine v_iload_n hX dX8_startOf_1 rfl ?_
  refine v_iconst hX dX8_startOf_2 li1 ?_
  refine tv_callV hX rfl dX8_startOf_3 q2261 cf_X8_told hw (mX8_told hw (hP) _ _ (vin (by decide))) rfl ⟨rfl, rfl⟩ ⟨Nat.le_of_ble_eq_true rfl, Nat.le_of_ble_eq_true rfl⟩ rfl (Nat.le_of_ble_eq_true rfl) ⟨Nat.le_of_ble_eq_true rfl, Nat.le_of_ble_eq_true rfl⟩ (fun w hw => ?_)
  exact v_iret hX dX8_startOf_6 hR (Nat.le_of_ble_eq_true rfl) (Nat.le_of_ble_eq_true rfl) (⟨rfl, hw⟩)
theorem cf_X8_waveOf : CF RX8 yX8_waveOf cX8_waveOf 2 (some .int) 1 := ⟨q2278, q2279, q150, q2280, by decide +kernel⟩
theorem mX8_waveOf {Γ : Gm} {l : Launch} {G : Nat → Nat} {wB : Wd} {x : TS} {w : Wd} (hw : tW Γ G wB x w) (hP : tP x) (b : Int32) : M0 Γ l yX8_waveOf (ws_ yX8_waveOf cX8_waveOf 2 (some .int)) (rl 4 0 0) 0 0 [.ref (G 61), .int b] w (fun r9 w9 => r9 = some (.int (tw_told b 2 x).1) ∧ tW Γ G wB ((tw_told b 2 x).2) w9) := by
  refine M0.of (lv := [some (.ref (G 61)), some (.int b)]) (by decide) (Nat.le_of_ble_eq_true rfl) 0 rfl rfl ?_
  intro X hX hR hl hG hnm
  subst hl; subst hG
  refine v_aload_n hX dX8_waveOf_0 rfl ?_
  refine v_iload_n hX dX8_waveOf_1 rfl ?_
  refine v_iconst hX dX8_waveOf_2 li2 ?_
  refine tv_callV hX rfl dX8_waveOf_3 q2261 cf_X8_told hw (mX8_told hw (hP) _ _ (vin (by decide))) rfl ⟨rfl, rfl⟩ ⟨Nat.le_of_ble_eq_true rfl, Nat.le_of_ble_eq_true rfl⟩ rfl (Nat.le_of_ble_eq_true rfl) ⟨Nat.le_of_ble_eq_true rfl, Nat.le_of_ble_eq_true rfl⟩ (fun w hw => ?_)
  exact v_iret hX dX8_waveOf_6 hR (Nat.le_of_ble_eq_true rfl) (Nat.le_of_ble_eq_true rfl) (⟨rfl, hw⟩)
theorem cf_X8_setting : CF RX8 yX8_setting cX8_setting 2 (some .int) 1 := ⟨q2282, q2283, q150, q2284, by decide +kernel⟩
theorem mX8_setting {Γ : Gm} {l : Launch} {G : Nat → Nat} {wB : Wd} {x : TS} {w : Wd} (hw : tW Γ G wB x w) (hP : tP x) (i : Int32) : M0 Γ l yX8_setting (ws_ yX8_setting cX8_setting 2 (some .int)) (rl 1 0 0) 0 0 [.ref (G 61), .int i] w (fun r9 w9 => r9 = some (.int (tw_setg i x).1) ∧ tW Γ G wB ((tw_setg i x).2) w9) := by
  refine M0.of (lv := [some (.ref (G 61)), some (.int i)]) (by decide) (Nat.le_of_ble_eq_true rfl) 0 rfl rfl ?_
  intro X hX hR hl hG hnm
  subst hl; subst hG
  refine v_aload_n hX dX8_setting_0 rfl ?_
  refine v_iconst hX dX8_setting_1 li0 ?_
  refine tv_putI hX dX8_setting_2 hw 0 (by decide) rfl q1909 rfl (by decide +kernel) (fun w hw => ?_)
  refine v_iload_n hX dX8_setting_5 rfl ?_
  refine v_iconst hX dX8_setting_6 li0 ?_
  refine v_bipush hX dX8_setting_7 lb6 ?_
  refine v_callSr hX rfl dX8_setting_9 q2115 cs_X8_isIn (mX8_isIn _ _ _) rfl ⟨rfl, rfl⟩ ⟨Nat.le_of_ble_eq_true rfl, Nat.le_of_ble_eq_true rfl⟩ rfl (Nat.le_of_ble_eq_true rfl) ⟨Nat.le_of_ble_eq_true rfl, Nat.le_of_ble_eq_true rfl⟩ ?_
  refine v_ifb_eq (tgt := 23) hX dX8_setting_12 rfl (fun c_12 => ?_) (fun c_12 => ?_)
  · refine v_aload_n hX dX8_setting_23 rfl ?_
    refine v_iconst hX dX8_setting_24 li1 ?_
    refine tv_callV hX rfl dX8_setting_25 q2103 cf_X8_fails hw (mX8_fails hw _) rfl ⟨rfl, rfl⟩ ⟨Nat.le_of_ble_eq_true rfl, Nat.le_of_ble_eq_true rfl⟩ rfl (Nat.le_of_ble_eq_true rfl) ⟨Nat.le_of_ble_eq_true rfl, Nat.le_of_ble_eq_true rfl⟩ (fun w hw => ?_)
    exact v_iret hX dX8_setting_28 hR (Nat.le_of_ble_eq_true rfl) (Nat.le_of_ble_eq_true rfl) (⟨(by first | (rw [tw_setg, if_neg c_12]; done) | (rw [tw_setg, if_neg c_12]; rfl)), hw.to (by first | (rw [tw_setg, if_neg c_12]; done) | (rw [tw_setg, if_neg c_12]; rfl))⟩)
  · refine v_aload_n hX dX8_setting_15 rfl ?_
    refine v_iload_n hX dX8_setting_16 rfl ?_
    refine tv_callR hX rfl dX8_setting_17 q2229 cf_X8_get hw (mX8_get hw _ (gidx (tPz hP) (vmono (isK (n := 6) (by decide) c_12) (by decide)))) rfl ⟨rfl, rfl⟩ ⟨Nat.le_of_ble_eq_true rfl, Nat.le_of_ble_eq_true rfl⟩ rfl (Nat.le_of_ble_eq_true rfl) ⟨Nat.le_of_ble_eq_true rfl, Nat.le_of_ble_eq_true rfl⟩ ?_
    refine v_goto (tgt := 28) hX dX8_setting_20 rfl ?_
    exact v_iret hX dX8_setting_28 hR (Nat.le_of_ble_eq_true rfl) (Nat.le_of_ble_eq_true rfl) (⟨(by first | (rw [tw_setg, if_pos c_12]; done) | (rw [tw_setg, if_pos c_12]; rfl)), hw.to (by first | (rw [tw_setg, if_pos c_12]; done) | (rw [tw_setg, if_pos c_12]; rfl))⟩)
theorem cf_X8_policy : CF RX8 yX8_policy cX8_policy 1 (some .int) 0 := ⟨q2286, q2287, q150, q2288, by decide +kernel⟩
theorem mX8_policy {Γ : Gm} {l : Launch} {G : Nat → Nat} {wB : Wd} {x : TS} {w : Wd} (hw : tW Γ G wB x w) (hP : tP x) : M0 Γ l yX8_policy (ws_ yX8_policy cX8_policy 1 (some .int)) (rl 1 0 0) 0 0 [.ref (G 61)] w (fun r9 w9 => r9 = some (.int (tG x 7)) ∧ tW Γ G wB (tw_z x) w9) := by
  refine M0.of (lv := [some (.ref (G 61))]) (by decide) (Nat.le_of_ble_eq_true rfl) 0 rfl rfl ?_
  intro X hX hR hl hG hnm
  subst hl; subst hG
  refine v_aload_n hX dX8_policy_0 rfl ?_
  refine v_iconst hX dX8_policy_1 li0 ?_
  refine tv_putI hX dX8_policy_2 hw 0 (by decide) rfl q1909 rfl (by decide +kernel) (fun w hw => ?_)
  refine v_aload_n hX dX8_policy_5 rfl ?_
  refine v_bipush hX dX8_policy_6 lb7 ?_
  refine tv_callR hX rfl dX8_policy_8 q2229 cf_X8_get hw (mX8_get hw _ (gidx (tPz hP) (vin (by decide)))) rfl ⟨rfl, rfl⟩ ⟨Nat.le_of_ble_eq_true rfl, Nat.le_of_ble_eq_true rfl⟩ rfl (Nat.le_of_ble_eq_true rfl) ⟨Nat.le_of_ble_eq_true rfl, Nat.le_of_ble_eq_true rfl⟩ ?_
  exact v_iret hX dX8_policy_11 hR (Nat.le_of_ble_eq_true rfl) (Nat.le_of_ble_eq_true rfl) (⟨rfl, hw⟩)
theorem cf_X8_state : CF RX8 yX8_state cX8_state 2 (some .int) 1 := ⟨q2290, q2291, q150, q2292, by decide +kernel⟩
theorem mX8_state {Γ : Gm} {l : Launch} {G : Nat → Nat} {wB : Wd} {x : TS} {w : Wd} (hw : tW Γ G wB x w) (hP : tP x) (b : Int32) : M0 Γ l yX8_state (ws_ yX8_state cX8_state 2 (some .int)) (rl 9 0 0) 0 0 [.ref (G 61), .int b] w (fun r9 w9 => r9 = some (.int (tw_sta b x).1) ∧ tW Γ G wB ((tw_sta b x).2) w9) := by
  refine M0.of (lv := [some (.ref (G 61)), some (.int b)]) (by decide) (Nat.le_of_ble_eq_true rfl) 0 rfl rfl ?_
  intro X hX hR hl hG hnm
  subst hl; subst hG
  refine v_aload_n hX dX8_state_0 rfl ?_
  refine v_iconst hX dX8_state_1 li0 ?_
  refine tv_putI hX dX8_state_2 hw 0 (by decide) rfl q1909 rfl (by decide +kernel) (fun w hw => ?_)
  refine v_aload_n hX dX8_state_5 rfl ?_
  refine v_iload_n hX dX8_state_6 rfl ?_
  refine tv_callR hX rfl dX8_state_7 q2265 cf_X8_isBatch hw (mX8_isBatch hw (tPz hP) _) rfl ⟨rfl, rfl⟩ ⟨Nat.le_of_ble_eq_true rfl, Nat.le_of_ble_eq_true rfl⟩ rfl (Nat.le_of_ble_eq_true rfl) ⟨Nat.le_of_ble_eq_true rfl, Nat.le_of_ble_eq_true rfl⟩ ?_
  refine v_ifb_ne (tgt := 19) hX dX8_state_10 rfl (fun c_10 => ?_) (fun c_10 => ?_)
  · refine v_aload_n hX dX8_state_19 rfl ?_
    refine tv_call0 hX rfl dX8_state_20 q2293 cf_X8_plays hw (mX8_plays1 hw (tPz hP)) rfl ⟨rfl, rfl⟩ ⟨Nat.le_of_ble_eq_true rfl, Nat.le_of_ble_eq_true rfl⟩ rfl (Nat.le_of_ble_eq_true rfl) ⟨Nat.le_of_ble_eq_true rfl, Nat.le_of_ble_eq_true rfl⟩ (fun w hw => ?_)
    refine v_aload_n hX dX8_state_23 rfl ?_
    refine v_iload_n hX dX8_state_24 rfl ?_
    refine tv_callR hX rfl dX8_state_25 q2407 cf_X8_stateOf hw (mX8_stateOf hw ((tPz hP).k (tw_dy_k _)) _ (vp_pn (tw_dy_k _) (isb (tPz hP) c_10))) rfl ⟨rfl, rfl⟩ ⟨Nat.le_of_ble_eq_true rfl, Nat.le_of_ble_eq_true rfl⟩ rfl (Nat.le_of_ble_eq_true rfl) ⟨Nat.le_of_ble_eq_true rfl, Nat.le_of_ble_eq_true rfl⟩ ?_
    exact v_iret hX dX8_state_28 hR (Nat.le_of_ble_eq_true rfl) (Nat.le_of_ble_eq_true rfl) (⟨(by first | (rw [tw_sta, if_pos c_10]; done) | (rw [tw_sta, if_pos c_10]; rfl)), hw.to (by first | (rw [tw_sta, if_pos c_10]; done) | (rw [tw_sta, if_pos c_10]; rfl))⟩)
  · refine v_aload_n hX dX8_state_13 rfl ?_
    refine v_iconst hX dX8_state_14 li1 ?_
    refine tv_callV hX rfl dX8_state_15 q2103 cf_X8_fails hw (mX8_fails hw _) rfl ⟨rfl, rfl⟩ ⟨Nat.le_of_ble_eq_true rfl, Nat.le_of_ble_eq_true rfl⟩ rfl (Nat.le_of_ble_eq_true rfl) ⟨Nat.le_of_ble_eq_true rfl, Nat.le_of_ble_eq_true rfl⟩ (fun w hw => ?_)
    exact v_iret hX dX8_state_18 hR (Nat.le_of_ble_eq_true rfl) (Nat.le_of_ble_eq_true rfl) (⟨(by first | (rw [tw_sta, if_neg c_10]; done) | (rw [tw_sta, if_neg c_10]; rfl)), hw.to (by first | (rw [tw_sta, if_neg c_10]; done) | (rw [tw_sta, if_neg c_10]; rfl))⟩)
theorem cf_X8_ofDay : CF RX8 yX8_ofDay cX8_ofDay 3 (some .int) 2 := ⟨q2417, qs98, q150, q2418, by decide +kernel⟩
theorem mX8_ofDay {Γ : Gm} {l : Launch} {G : Nat → Nat} {wB : Wd} {x : TS} {w : Wd} (hw : tW Γ G wB x w) (hP : tP x) (j : Nat) (hj : j < 61) (ht : tti.getD j 9 = 0) (hN : tln.getD j 0 = 20) (b : Int32) : M0 Γ l yX8_ofDay (ws_ yX8_ofDay cX8_ofDay 3 (some .int)) (rl 9 0 0) 0 0 [.ref (G 61), .ref (G j), .int b] w (fun r9 w9 => r9 = some (.int (tw_ofd j b x).1) ∧ tW Γ G wB ((tw_ofd j b x).2) w9) := by
  refine M0.of (lv := [some (.ref (G 61)), some (.ref (G j)), some (.int b)]) (by decide) (Nat.le_of_ble_eq_true rfl) 0 rfl rfl ?_
  intro X hX hR hl hG hnm
  subst hl; subst hG
  refine v_aload_n hX dX8_ofDay_0 rfl ?_
  refine v_iconst hX dX8_ofDay_1 li0 ?_
  refine tv_putI hX dX8_ofDay_2 hw 0 (by decide) rfl q1909 rfl (by decide +kernel) (fun w hw => ?_)
  refine v_aload_n hX dX8_ofDay_5 rfl ?_
  refine v_iload_n hX dX8_ofDay_6 rfl ?_
  refine tv_callR hX rfl dX8_ofDay_7 q2265 cf_X8_isBatch hw (mX8_isBatch hw (tPz hP) _) rfl ⟨rfl, rfl⟩ ⟨Nat.le_of_ble_eq_true rfl, Nat.le_of_ble_eq_true rfl⟩ rfl (Nat.le_of_ble_eq_true rfl) ⟨Nat.le_of_ble_eq_true rfl, Nat.le_of_ble_eq_true rfl⟩ ?_
  refine v_ifb_ne (tgt := 19) hX dX8_ofDay_10 rfl (fun c_10 => ?_) (fun c_10 => ?_)
  · refine v_aload_n hX dX8_ofDay_19 rfl ?_
    refine tv_call0 hX rfl dX8_ofDay_20 q2293 cf_X8_plays hw (mX8_plays1 hw (tPz hP)) rfl ⟨rfl, rfl⟩ ⟨Nat.le_of_ble_eq_true rfl, Nat.le_of_ble_eq_true rfl⟩ rfl (Nat.le_of_ble_eq_true rfl) ⟨Nat.le_of_ble_eq_true rfl, Nat.le_of_ble_eq_true rfl⟩ (fun w hw => ?_)
    refine v_aload_n hX dX8_ofDay_23 rfl ?_
    refine v_iload_n hX dX8_ofDay_24 rfl ?_
    refine tv_iald hX dX8_ofDay_25 hw hj ht hN (b20 (tPz hP) (isb (tPz hP) c_10)) ?_
    exact v_iret hX dX8_ofDay_26 hR (Nat.le_of_ble_eq_true rfl) (Nat.le_of_ble_eq_true rfl) (⟨(by first | (rw [tw_ofd, if_pos c_10]; done) | (rw [tw_ofd, if_pos c_10]; rfl)), hw.to (by first | (rw [tw_ofd, if_pos c_10]; done) | (rw [tw_ofd, if_pos c_10]; rfl))⟩)
  · refine v_aload_n hX dX8_ofDay_13 rfl ?_
    refine v_iconst hX dX8_ofDay_14 li1 ?_
    refine tv_callV hX rfl dX8_ofDay_15 q2103 cf_X8_fails hw (mX8_fails hw _) rfl ⟨rfl, rfl⟩ ⟨Nat.le_of_ble_eq_true rfl, Nat.le_of_ble_eq_true rfl⟩ rfl (Nat.le_of_ble_eq_true rfl) ⟨Nat.le_of_ble_eq_true rfl, Nat.le_of_ble_eq_true rfl⟩ (fun w hw => ?_)
    exact v_iret hX dX8_ofDay_18 hR (Nat.le_of_ble_eq_true rfl) (Nat.le_of_ble_eq_true rfl) (⟨(by first | (rw [tw_ofd, if_neg c_10]; done) | (rw [tw_ofd, if_neg c_10]; rfl)), hw.to (by first | (rw [tw_ofd, if_neg c_10]; done) | (rw [tw_ofd, if_neg c_10]; rfl))⟩)
theorem cf_X8_mixerOf : CF RX8 yX8_mixerOf cX8_mixerOf 2 (some .int) 1 := ⟨q2412, q2413, q150, q2414, by decide +kernel⟩
theorem mX8_mixerOf {Γ : Gm} {l : Launch} {G : Nat → Nat} {wB : Wd} {x : TS} {w : Wd} (hw : tW Γ G wB x w) (hP : tP x) (b : Int32) : M0 Γ l yX8_mixerOf (ws_ yX8_mixerOf cX8_mixerOf 2 (some .int)) (rl 10 0 0) 0 0 [.ref (G 61), .int b] w (fun r9 w9 => r9 = some (.int (tw_ofd 34 b x).1) ∧ tW Γ G wB ((tw_ofd 34 b x).2) w9) := by
  refine M0.of (lv := [some (.ref (G 61)), some (.int b)]) (by decide) (Nat.le_of_ble_eq_true rfl) 0 rfl rfl ?_
  intro X hX hR hl hG hnm
  subst hl; subst hG
  refine v_aload_n hX dX8_mixerOf_0 rfl ?_
  refine v_aload_n hX dX8_mixerOf_1 rfl ?_
  refine tv_getA hX dX8_mixerOf_2 hw 34 (by decide) rfl q1943 ?_
  refine v_iload_n hX dX8_mixerOf_5 rfl ?_
  refine tv_callV hX rfl dX8_mixerOf_6 q2415 cf_X8_ofDay hw (mX8_ofDay hw (hP) _ (by decide) rfl rfl _) rfl ⟨rfl, rfl⟩ ⟨Nat.le_of_ble_eq_true rfl, Nat.le_of_ble_eq_true rfl⟩ rfl (Nat.le_of_ble_eq_true rfl) ⟨Nat.le_of_ble_eq_true rfl, Nat.le_of_ble_eq_true rfl⟩ (fun w hw => ?_)
  exact v_iret hX dX8_mixerOf_9 hR (Nat.le_of_ble_eq_true rfl) (Nat.le_of_ble_eq_true rfl) (⟨rfl, hw⟩)
theorem cf_X8_mixStart : CF RX8 yX8_mixStart cX8_mixStart 2 (some .int) 1 := ⟨q2420, q2421, q150, q2422, by decide +kernel⟩
theorem mX8_mixStart {Γ : Gm} {l : Launch} {G : Nat → Nat} {wB : Wd} {x : TS} {w : Wd} (hw : tW Γ G wB x w) (hP : tP x) (b : Int32) : M0 Γ l yX8_mixStart (ws_ yX8_mixStart cX8_mixStart 2 (some .int)) (rl 10 0 0) 0 0 [.ref (G 61), .int b] w (fun r9 w9 => r9 = some (.int (tw_ofd 35 b x).1) ∧ tW Γ G wB ((tw_ofd 35 b x).2) w9) := by
  refine M0.of (lv := [some (.ref (G 61)), some (.int b)]) (by decide) (Nat.le_of_ble_eq_true rfl) 0 rfl rfl ?_
  intro X hX hR hl hG hnm
  subst hl; subst hG
  refine v_aload_n hX dX8_mixStart_0 rfl ?_
  refine v_aload_n hX dX8_mixStart_1 rfl ?_
  refine tv_getA hX dX8_mixStart_2 hw 35 (by decide) rfl q1944 ?_
  refine v_iload_n hX dX8_mixStart_5 rfl ?_
  refine tv_callV hX rfl dX8_mixStart_6 q2415 cf_X8_ofDay hw (mX8_ofDay hw (hP) _ (by decide) rfl rfl _) rfl ⟨rfl, rfl⟩ ⟨Nat.le_of_ble_eq_true rfl, Nat.le_of_ble_eq_true rfl⟩ rfl (Nat.le_of_ble_eq_true rfl) ⟨Nat.le_of_ble_eq_true rfl, Nat.le_of_ble_eq_true rfl⟩ (fun w hw => ?_)
  exact v_iret hX dX8_mixStart_9 hR (Nat.le_of_ble_eq_true rfl) (Nat.le_of_ble_eq_true rfl) (⟨rfl, hw⟩)
theorem cf_X8_proofStart : CF RX8 yX8_proofStart cX8_proofStart 2 (some .int) 1 := ⟨q2424, q2425, q150, q2426, by decide +kernel⟩
theorem mX8_proofStart {Γ : Gm} {l : Launch} {G : Nat → Nat} {wB : Wd} {x : TS} {w : Wd} (hw : tW Γ G wB x w) (hP : tP x) (b : Int32) : M0 Γ l yX8_proofStart (ws_ yX8_proofStart cX8_proofStart 2 (some .int)) (rl 10 0 0) 0 0 [.ref (G 61), .int b] w (fun r9 w9 => r9 = some (.int (tw_ofd 36 b x).1) ∧ tW Γ G wB ((tw_ofd 36 b x).2) w9) := by
  refine M0.of (lv := [some (.ref (G 61)), some (.int b)]) (by decide) (Nat.le_of_ble_eq_true rfl) 0 rfl rfl ?_
  intro X hX hR hl hG hnm
  subst hl; subst hG
  refine v_aload_n hX dX8_proofStart_0 rfl ?_
  refine v_aload_n hX dX8_proofStart_1 rfl ?_
  refine tv_getA hX dX8_proofStart_2 hw 36 (by decide) rfl q1945 ?_
  refine v_iload_n hX dX8_proofStart_5 rfl ?_
  refine tv_callV hX rfl dX8_proofStart_6 q2415 cf_X8_ofDay hw (mX8_ofDay hw (hP) _ (by decide) rfl rfl _) rfl ⟨rfl, rfl⟩ ⟨Nat.le_of_ble_eq_true rfl, Nat.le_of_ble_eq_true rfl⟩ rfl (Nat.le_of_ble_eq_true rfl) ⟨Nat.le_of_ble_eq_true rfl, Nat.le_of_ble_eq_true rfl⟩ (fun w hw => ?_)
  exact v_iret hX dX8_proofStart_9 hR (Nat.le_of_ble_eq_true rfl) (Nat.le_of_ble_eq_true rfl) (⟨rfl, hw⟩)
theorem cf_X8_deckOf : CF RX8 yX8_deckOf cX8_deckOf 2 (some .int) 1 := ⟨q2428, q2429, q150, q2430, by decide +kernel⟩
theorem mX8_deckOf {Γ : Gm} {l : Launch} {G : Nat → Nat} {wB : Wd} {x : TS} {w : Wd} (hw : tW Γ G wB x w) (hP : tP x) (b : Int32) : M0 Γ l yX8_deckOf (ws_ yX8_deckOf cX8_deckOf 2 (some .int)) (rl 10 0 0) 0 0 [.ref (G 61), .int b] w (fun r9 w9 => r9 = some (.int (tw_ofd 37 b x).1) ∧ tW Γ G wB ((tw_ofd 37 b x).2) w9) := by
  refine M0.of (lv := [some (.ref (G 61)), some (.int b)]) (by decide) (Nat.le_of_ble_eq_true rfl) 0 rfl rfl ?_
  intro X hX hR hl hG hnm
  subst hl; subst hG
  refine v_aload_n hX dX8_deckOf_0 rfl ?_
  refine v_aload_n hX dX8_deckOf_1 rfl ?_
  refine tv_getA hX dX8_deckOf_2 hw 37 (by decide) rfl q1946 ?_
  refine v_iload_n hX dX8_deckOf_5 rfl ?_
  refine tv_callV hX rfl dX8_deckOf_6 q2415 cf_X8_ofDay hw (mX8_ofDay hw (hP) _ (by decide) rfl rfl _) rfl ⟨rfl, rfl⟩ ⟨Nat.le_of_ble_eq_true rfl, Nat.le_of_ble_eq_true rfl⟩ rfl (Nat.le_of_ble_eq_true rfl) ⟨Nat.le_of_ble_eq_true rfl, Nat.le_of_ble_eq_true rfl⟩ (fun w hw => ?_)
  exact v_iret hX dX8_deckOf_9 hR (Nat.le_of_ble_eq_true rfl) (Nat.le_of_ble_eq_true rfl) (⟨rfl, hw⟩)
theorem cf_X8_bakeStart : CF RX8 yX8_bakeStart cX8_bakeStart 2 (some .int) 1 := ⟨q2432, q2433, q150, q2434, by decide +kernel⟩
theorem mX8_bakeStart {Γ : Gm} {l : Launch} {G : Nat → Nat} {wB : Wd} {x : TS} {w : Wd} (hw : tW Γ G wB x w) (hP : tP x) (b : Int32) : M0 Γ l yX8_bakeStart (ws_ yX8_bakeStart cX8_bakeStart 2 (some .int)) (rl 10 0 0) 0 0 [.ref (G 61), .int b] w (fun r9 w9 => r9 = some (.int (tw_ofd 38 b x).1) ∧ tW Γ G wB ((tw_ofd 38 b x).2) w9) := by
  refine M0.of (lv := [some (.ref (G 61)), some (.int b)]) (by decide) (Nat.le_of_ble_eq_true rfl) 0 rfl rfl ?_
  intro X hX hR hl hG hnm
  subst hl; subst hG
  refine v_aload_n hX dX8_bakeStart_0 rfl ?_
  refine v_aload_n hX dX8_bakeStart_1 rfl ?_
  refine tv_getA hX dX8_bakeStart_2 hw 38 (by decide) rfl q1947 ?_
  refine v_iload_n hX dX8_bakeStart_5 rfl ?_
  refine tv_callV hX rfl dX8_bakeStart_6 q2415 cf_X8_ofDay hw (mX8_ofDay hw (hP) _ (by decide) rfl rfl _) rfl ⟨rfl, rfl⟩ ⟨Nat.le_of_ble_eq_true rfl, Nat.le_of_ble_eq_true rfl⟩ rfl (Nat.le_of_ble_eq_true rfl) ⟨Nat.le_of_ble_eq_true rfl, Nat.le_of_ble_eq_true rfl⟩ (fun w hw => ?_)
  exact v_iret hX dX8_bakeStart_9 hR (Nat.le_of_ble_eq_true rfl) (Nat.le_of_ble_eq_true rfl) (⟨rfl, hw⟩)
theorem cf_X8_bakeEnd : CF RX8 yX8_bakeEnd cX8_bakeEnd 2 (some .int) 1 := ⟨q2436, q2437, q150, q2438, by decide +kernel⟩
theorem mX8_bakeEnd {Γ : Gm} {l : Launch} {G : Nat → Nat} {wB : Wd} {x : TS} {w : Wd} (hw : tW Γ G wB x w) (hP : tP x) (b : Int32) : M0 Γ l yX8_bakeEnd (ws_ yX8_bakeEnd cX8_bakeEnd 2 (some .int)) (rl 10 0 0) 0 0 [.ref (G 61), .int b] w (fun r9 w9 => r9 = some (.int (tw_ofd 39 b x).1) ∧ tW Γ G wB ((tw_ofd 39 b x).2) w9) := by
  refine M0.of (lv := [some (.ref (G 61)), some (.int b)]) (by decide) (Nat.le_of_ble_eq_true rfl) 0 rfl rfl ?_
  intro X hX hR hl hG hnm
  subst hl; subst hG
  refine v_aload_n hX dX8_bakeEnd_0 rfl ?_
  refine v_aload_n hX dX8_bakeEnd_1 rfl ?_
  refine tv_getA hX dX8_bakeEnd_2 hw 39 (by decide) rfl q1948 ?_
  refine v_iload_n hX dX8_bakeEnd_5 rfl ?_
  refine tv_callV hX rfl dX8_bakeEnd_6 q2415 cf_X8_ofDay hw (mX8_ofDay hw (hP) _ (by decide) rfl rfl _) rfl ⟨rfl, rfl⟩ ⟨Nat.le_of_ble_eq_true rfl, Nat.le_of_ble_eq_true rfl⟩ rfl (Nat.le_of_ble_eq_true rfl) ⟨Nat.le_of_ble_eq_true rfl, Nat.le_of_ble_eq_true rfl⟩ (fun w hw => ?_)
  exact v_iret hX dX8_bakeEnd_9 hR (Nat.le_of_ble_eq_true rfl) (Nat.le_of_ble_eq_true rfl) (⟨rfl, hw⟩)
theorem cf_X8_lostAt : CF RX8 yX8_lostAt cX8_lostAt 2 (some .int) 1 := ⟨q2440, q2441, q150, q2442, by decide +kernel⟩
theorem mX8_lostAt {Γ : Gm} {l : Launch} {G : Nat → Nat} {wB : Wd} {x : TS} {w : Wd} (hw : tW Γ G wB x w) (hP : tP x) (b : Int32) : M0 Γ l yX8_lostAt (ws_ yX8_lostAt cX8_lostAt 2 (some .int)) (rl 10 0 0) 0 0 [.ref (G 61), .int b] w (fun r9 w9 => r9 = some (.int (tw_ofd 40 b x).1) ∧ tW Γ G wB ((tw_ofd 40 b x).2) w9) := by
  refine M0.of (lv := [some (.ref (G 61)), some (.int b)]) (by decide) (Nat.le_of_ble_eq_true rfl) 0 rfl rfl ?_
  intro X hX hR hl hG hnm
  subst hl; subst hG
  refine v_aload_n hX dX8_lostAt_0 rfl ?_
  refine v_aload_n hX dX8_lostAt_1 rfl ?_
  refine tv_getA hX dX8_lostAt_2 hw 40 (by decide) rfl q1949 ?_
  refine v_iload_n hX dX8_lostAt_5 rfl ?_
  refine tv_callV hX rfl dX8_lostAt_6 q2415 cf_X8_ofDay hw (mX8_ofDay hw (hP) _ (by decide) rfl rfl _) rfl ⟨rfl, rfl⟩ ⟨Nat.le_of_ble_eq_true rfl, Nat.le_of_ble_eq_true rfl⟩ rfl (Nat.le_of_ble_eq_true rfl) ⟨Nat.le_of_ble_eq_true rfl, Nat.le_of_ble_eq_true rfl⟩ (fun w hw => ?_)
  exact v_iret hX dX8_lostAt_9 hR (Nat.le_of_ble_eq_true rfl) (Nat.le_of_ble_eq_true rfl) (⟨rfl, hw⟩)
theorem cf_X8_shelfMinutes : CF RX8 yX8_shelfMinutes cX8_shelfMinutes 2 (some .int) 1 := ⟨q2444, q2445, q150, q2446, by decide +kernel⟩
theorem mX8_shelfMinutes {Γ : Gm} {l : Launch} {G : Nat → Nat} {wB : Wd} {x : TS} {w : Wd} (hw : tW Γ G wB x w) (hP : tP x) (b : Int32) : M0 Γ l yX8_shelfMinutes (ws_ yX8_shelfMinutes cX8_shelfMinutes 2 (some .int)) (rl 10 0 0) 0 0 [.ref (G 61), .int b] w (fun r9 w9 => r9 = some (.int (tw_ofd 41 b x).1) ∧ tW Γ G wB ((tw_ofd 41 b x).2) w9) := by
  refine M0.of (lv := [some (.ref (G 61)), some (.int b)]) (by decide) (Nat.le_of_ble_eq_true rfl) 0 rfl rfl ?_
  intro X hX hR hl hG hnm
  subst hl; subst hG
  refine v_aload_n hX dX8_shelfMinutes_0 rfl ?_
  refine v_aload_n hX dX8_shelfMinutes_1 rfl ?_
  refine tv_getA hX dX8_shelfMinutes_2 hw 41 (by decide) rfl q1950 ?_
  refine v_iload_n hX dX8_shelfMinutes_5 rfl ?_
  refine tv_callV hX rfl dX8_shelfMinutes_6 q2415 cf_X8_ofDay hw (mX8_ofDay hw (hP) _ (by decide) rfl rfl _) rfl ⟨rfl, rfl⟩ ⟨Nat.le_of_ble_eq_true rfl, Nat.le_of_ble_eq_true rfl⟩ rfl (Nat.le_of_ble_eq_true rfl) ⟨Nat.le_of_ble_eq_true rfl, Nat.le_of_ble_eq_true rfl⟩ (fun w hw => ?_)
  exact v_iret hX dX8_shelfMinutes_9 hR (Nat.le_of_ble_eq_true rfl) (Nat.le_of_ble_eq_true rfl) (⟨rfl, hw⟩)
theorem cf_X8_count : CF RX8 yX8_count cX8_count 2 (some .int) 1 := ⟨q2453, q2454, q150, q2455, by decide +kernel⟩
theorem mX8_count {Γ : Gm} {l : Launch} {G : Nat → Nat} {wB : Wd} {x : TS} {w : Wd} (hw : tW Γ G wB x w) (hP : tP x) (u : Int32) : M0 Γ l yX8_count (ws_ yX8_count cX8_count 2 (some .int)) (rl 9 0 0) 0 0 [.ref (G 61), .int u] w (fun r9 w9 => r9 = some (.int (tw_cou u x).1) ∧ tW Γ G wB ((tw_cou u x).2) w9) := by
  refine M0.of (lv := [some (.ref (G 61)), some (.int u)]) (by decide) (Nat.le_of_ble_eq_true rfl) 0 rfl rfl ?_
  intro X hX hR hl hG hnm
  subst hl; subst hG
  refine v_aload_n hX dX8_count_0 rfl ?_
  refine v_iconst hX dX8_count_1 li0 ?_
  refine tv_putI hX dX8_count_2 hw 0 (by decide) rfl q1909 rfl (by decide +kernel) (fun w hw => ?_)
  refine v_iload_n hX dX8_count_5 rfl ?_
  refine v_iconst hX dX8_count_6 li0 ?_
  refine v_iconst hX dX8_count_7 li3 ?_
  refine v_callSr hX rfl dX8_count_8 q2115 cs_X8_isIn (mX8_isIn _ _ _) rfl ⟨rfl, rfl⟩ ⟨Nat.le_of_ble_eq_true rfl, Nat.le_of_ble_eq_true rfl⟩ rfl (Nat.le_of_ble_eq_true rfl) ⟨Nat.le_of_ble_eq_true rfl, Nat.le_of_ble_eq_true rfl⟩ ?_
  refine v_ifb_ne (tgt := 20) hX dX8_count_11 rfl (fun c_11 => ?_) (fun c_11 => ?_)
  · refine v_aload_n hX dX8_count_20 rfl ?_
    refine tv_call0 hX rfl dX8_count_21 q2293 cf_X8_plays hw (mX8_plays1 hw (tPz hP)) rfl ⟨rfl, rfl⟩ ⟨Nat.le_of_ble_eq_true rfl, Nat.le_of_ble_eq_true rfl⟩ rfl (Nat.le_of_ble_eq_true rfl) ⟨Nat.le_of_ble_eq_true rfl, Nat.le_of_ble_eq_true rfl⟩ (fun w hw => ?_)
    refine v_aload_n hX dX8_count_24 rfl ?_
    refine v_iload_n hX dX8_count_25 rfl ?_
    refine tv_callR hX rfl dX8_count_26 q2456 cf_X8_countOf hw (mX8_countOf hw ((tPz hP).k (tw_dy_k _)) _) rfl ⟨rfl, rfl⟩ ⟨Nat.le_of_ble_eq_true rfl, Nat.le_of_ble_eq_true rfl⟩ rfl (Nat.le_of_ble_eq_true rfl) ⟨Nat.le_of_ble_eq_true rfl, Nat.le_of_ble_eq_true rfl⟩ ?_
    exact v_iret hX dX8_count_29 hR (Nat.le_of_ble_eq_true rfl) (Nat.le_of_ble_eq_true rfl) (⟨(by first | (rw [tw_cou, if_pos c_11]; done) | (rw [tw_cou, if_pos c_11]; rfl)), hw.to (by first | (rw [tw_cou, if_pos c_11]; done) | (rw [tw_cou, if_pos c_11]; rfl))⟩)
  · refine v_aload_n hX dX8_count_14 rfl ?_
    refine v_iconst hX dX8_count_15 li1 ?_
    refine tv_callV hX rfl dX8_count_16 q2103 cf_X8_fails hw (mX8_fails hw _) rfl ⟨rfl, rfl⟩ ⟨Nat.le_of_ble_eq_true rfl, Nat.le_of_ble_eq_true rfl⟩ rfl (Nat.le_of_ble_eq_true rfl) ⟨Nat.le_of_ble_eq_true rfl, Nat.le_of_ble_eq_true rfl⟩ (fun w hw => ?_)
    exact v_iret hX dX8_count_19 hR (Nat.le_of_ble_eq_true rfl) (Nat.le_of_ble_eq_true rfl) (⟨(by first | (rw [tw_cou, if_neg c_11]; done) | (rw [tw_cou, if_neg c_11]; rfl)), hw.to (by first | (rw [tw_cou, if_neg c_11]; done) | (rw [tw_cou, if_neg c_11]; rfl))⟩)
theorem cf_X8_lastEnd : CF RX8 yX8_lastEnd cX8_lastEnd 1 (some .int) 0 := ⟨q2461, q2462, q150, q2463, by decide +kernel⟩
theorem mX8_lastEnd {Γ : Gm} {l : Launch} {G : Nat → Nat} {wB : Wd} {x : TS} {w : Wd} (hw : tW Γ G wB x w) (hP : tP x) : M0 Γ l yX8_lastEnd (ws_ yX8_lastEnd cX8_lastEnd 1 (some .int)) (rl 9 0 0) 0 0 [.ref (G 61)] w (fun r9 w9 => r9 = some (.int (tw_last (tw_dy (tw_z x)))) ∧ tW Γ G wB (tw_dy (tw_z x)) w9) := by
  refine M0.of (lv := [some (.ref (G 61))]) (by decide) (Nat.le_of_ble_eq_true rfl) 0 rfl rfl ?_
  intro X hX hR hl hG hnm
  subst hl; subst hG
  refine v_aload_n hX dX8_lastEnd_0 rfl ?_
  refine v_iconst hX dX8_lastEnd_1 li0 ?_
  refine tv_putI hX dX8_lastEnd_2 hw 0 (by decide) rfl q1909 rfl (by decide +kernel) (fun w hw => ?_)
  refine v_aload_n hX dX8_lastEnd_5 rfl ?_
  refine tv_call0 hX rfl dX8_lastEnd_6 q2293 cf_X8_plays hw (mX8_plays1 hw (tPz hP)) rfl ⟨rfl, rfl⟩ ⟨Nat.le_of_ble_eq_true rfl, Nat.le_of_ble_eq_true rfl⟩ rfl (Nat.le_of_ble_eq_true rfl) ⟨Nat.le_of_ble_eq_true rfl, Nat.le_of_ble_eq_true rfl⟩ (fun w hw => ?_)
  refine v_aload_n hX dX8_lastEnd_9 rfl ?_
  refine tv_callR hX rfl dX8_lastEnd_10 q2464 cf_X8_lastOf hw (mX8_lastOf hw ((tPz hP).k (tw_dy_k _))) rfl ⟨rfl, rfl⟩ ⟨Nat.le_of_ble_eq_true rfl, Nat.le_of_ble_eq_true rfl⟩ rfl (Nat.le_of_ble_eq_true rfl) ⟨Nat.le_of_ble_eq_true rfl, Nat.le_of_ble_eq_true rfl⟩ ?_
  exact v_iret hX dX8_lastEnd_13 hR (Nat.le_of_ble_eq_true rfl) (Nat.le_of_ble_eq_true rfl) (⟨rfl, hw⟩)
theorem cf_X8_cleanings : CF RX8 yX8_cleanings cX8_cleanings 1 (some .int) 0 := ⟨q2469, q2470, q150, q2471, by decide +kernel⟩
theorem mX8_cleanings {Γ : Gm} {l : Launch} {G : Nat → Nat} {wB : Wd} {x : TS} {w : Wd} (hw : tW Γ G wB x w) (hP : tP x) : M0 Γ l yX8_cleanings (ws_ yX8_cleanings cX8_cleanings 1 (some .int)) (rl 9 0 0) 0 0 [.ref (G 61)] w (fun r9 w9 => r9 = some (.int ((tw_dy (tw_z x)).1 52)) ∧ tW Γ G wB (tw_dy (tw_z x)) w9) := by
  refine M0.of (lv := [some (.ref (G 61))]) (by decide) (Nat.le_of_ble_eq_true rfl) 0 rfl rfl ?_
  intro X hX hR hl hG hnm
  subst hl; subst hG
  refine v_aload_n hX dX8_cleanings_0 rfl ?_
  refine v_iconst hX dX8_cleanings_1 li0 ?_
  refine tv_putI hX dX8_cleanings_2 hw 0 (by decide) rfl q1909 rfl (by decide +kernel) (fun w hw => ?_)
  refine v_aload_n hX dX8_cleanings_5 rfl ?_
  refine tv_call0 hX rfl dX8_cleanings_6 q2293 cf_X8_plays hw (mX8_plays1 hw (tPz hP)) rfl ⟨rfl, rfl⟩ ⟨Nat.le_of_ble_eq_true rfl, Nat.le_of_ble_eq_true rfl⟩ rfl (Nat.le_of_ble_eq_true rfl) ⟨Nat.le_of_ble_eq_true rfl, Nat.le_of_ble_eq_true rfl⟩ (fun w hw => ?_)
  refine v_aload_n hX dX8_cleanings_9 rfl ?_
  refine tv_getI hX dX8_cleanings_10 hw 52 (by decide) rfl q1961 ?_
  exact v_iret hX dX8_cleanings_13 hR (Nat.le_of_ble_eq_true rfl) (Nat.le_of_ble_eq_true rfl) (⟨rfl, hw⟩)
theorem cf_X8_degrees : CF RX8 yX8_degrees cX8_degrees 1 (some .int) 0 := ⟨q2473, q2474, q150, q2475, by decide +kernel⟩
theorem mX8_degrees {Γ : Gm} {l : Launch} {G : Nat → Nat} {wB : Wd} {x : TS} {w : Wd} (hw : tW Γ G wB x w) (hP : tP x) : M0 Γ l yX8_degrees (ws_ yX8_degrees cX8_degrees 1 (some .int)) (rl 9 0 0) 0 0 [.ref (G 61)] w (fun r9 w9 => r9 = some (.int ((tw_dy (tw_z x)).1 53)) ∧ tW Γ G wB (tw_dy (tw_z x)) w9) := by
  refine M0.of (lv := [some (.ref (G 61))]) (by decide) (Nat.le_of_ble_eq_true rfl) 0 rfl rfl ?_
  intro X hX hR hl hG hnm
  subst hl; subst hG
  refine v_aload_n hX dX8_degrees_0 rfl ?_
  refine v_iconst hX dX8_degrees_1 li0 ?_
  refine tv_putI hX dX8_degrees_2 hw 0 (by decide) rfl q1909 rfl (by decide +kernel) (fun w hw => ?_)
  refine v_aload_n hX dX8_degrees_5 rfl ?_
  refine tv_call0 hX rfl dX8_degrees_6 q2293 cf_X8_plays hw (mX8_plays1 hw (tPz hP)) rfl ⟨rfl, rfl⟩ ⟨Nat.le_of_ble_eq_true rfl, Nat.le_of_ble_eq_true rfl⟩ rfl (Nat.le_of_ble_eq_true rfl) ⟨Nat.le_of_ble_eq_true rfl, Nat.le_of_ble_eq_true rfl⟩ (fun w hw => ?_)
  refine v_aload_n hX dX8_degrees_9 rfl ?_
  refine tv_getI hX dX8_degrees_10 hw 53 (by decide) rfl q1962 ?_
  exact v_iret hX dX8_degrees_13 hR (Nat.le_of_ble_eq_true rfl) (Nat.le_of_ble_eq_true rfl) (⟨rfl, hw⟩)
theorem cf_X8_begunBy : CF RX8 yX8_begunBy cX8_begunBy 2 (some .int) 1 := ⟨q2486, q2487, q150, q2488, by decide +kernel⟩
theorem mX8_begunBy {Γ : Gm} {l : Launch} {G : Nat → Nat} {wB : Wd} {x : TS} {w : Wd} (hw : tW Γ G wB x w) (hP : tP x) (m : Int32) : M0 Γ l yX8_begunBy (ws_ yX8_begunBy cX8_begunBy 2 (some .int)) (rl 9 0 0) 0 0 [.ref (G 61), .int m] w (fun r9 w9 => r9 = some (.int (tw_bgb m x).1) ∧ tW Γ G wB ((tw_bgb m x).2) w9) := by
  refine M0.of (lv := [some (.ref (G 61)), some (.int m)]) (by decide) (Nat.le_of_ble_eq_true rfl) 0 rfl rfl ?_
  intro X hX hR hl hG hnm
  subst hl; subst hG
  refine v_aload_n hX dX8_begunBy_0 rfl ?_
  refine v_iconst hX dX8_begunBy_1 li0 ?_
  refine tv_putI hX dX8_begunBy_2 hw 0 (by decide) rfl q1909 rfl (by decide +kernel) (fun w hw => ?_)
  refine v_iload_n hX dX8_begunBy_5 rfl ?_
  refine v_iconst hX dX8_begunBy_6 li0 ?_
  refine v_aload_n hX dX8_begunBy_7 rfl ?_
  refine v_iconst hX dX8_begunBy_8 li0 ?_
  refine tv_callR hX rfl dX8_begunBy_9 q2229 cf_X8_get hw (mX8_get hw _ (gidx (tPz hP) (vin (by decide)))) rfl ⟨rfl, rfl⟩ ⟨Nat.le_of_ble_eq_true rfl, Nat.le_of_ble_eq_true rfl⟩ rfl (Nat.le_of_ble_eq_true rfl) ⟨Nat.le_of_ble_eq_true rfl, Nat.le_of_ble_eq_true rfl⟩ ?_
  refine v_iconst hX dX8_begunBy_12 li1 ?_
  refine v_isub hX dX8_begunBy_13 ?_
  refine v_callSr hX rfl dX8_begunBy_14 q2115 cs_X8_isIn (mX8_isIn _ _ _) rfl ⟨rfl, rfl⟩ ⟨Nat.le_of_ble_eq_true rfl, Nat.le_of_ble_eq_true rfl⟩ rfl (Nat.le_of_ble_eq_true rfl) ⟨Nat.le_of_ble_eq_true rfl, Nat.le_of_ble_eq_true rfl⟩ ?_
  refine v_ifb_ne (tgt := 26) hX dX8_begunBy_17 rfl (fun c_17 => ?_) (fun c_17 => ?_)
  · refine v_aload_n hX dX8_begunBy_26 rfl ?_
    refine tv_call0 hX rfl dX8_begunBy_27 q2293 cf_X8_plays hw (mX8_plays1 hw (tPz hP)) rfl ⟨rfl, rfl⟩ ⟨Nat.le_of_ble_eq_true rfl, Nat.le_of_ble_eq_true rfl⟩ rfl (Nat.le_of_ble_eq_true rfl) ⟨Nat.le_of_ble_eq_true rfl, Nat.le_of_ble_eq_true rfl⟩ (fun w hw => ?_)
    refine v_aload_n hX dX8_begunBy_30 rfl ?_
    refine tv_getA hX dX8_begunBy_31 hw 46 (by decide) rfl q1955 ?_
    refine v_iload_n hX dX8_begunBy_34 rfl ?_
    refine tv_iald hX dX8_begunBy_35 hw (by decide) rfl rfl (vmono (isn (tPz hP).2.2.1.2.2 (Nat.le_trans (tPz hP).2.2.1.2.1 (by decide)) c_17) (tPz hP).2.2.1.2.1) ?_
    exact v_iret hX dX8_begunBy_36 hR (Nat.le_of_ble_eq_true rfl) (Nat.le_of_ble_eq_true rfl) (⟨(by first | (rw [tw_bgb, if_pos c_17]; done) | (rw [tw_bgb, if_pos c_17]; rfl)), hw.to (by first | (rw [tw_bgb, if_pos c_17]; done) | (rw [tw_bgb, if_pos c_17]; rfl))⟩)
  · refine v_aload_n hX dX8_begunBy_20 rfl ?_
    refine v_iconst hX dX8_begunBy_21 li1 ?_
    refine tv_callV hX rfl dX8_begunBy_22 q2103 cf_X8_fails hw (mX8_fails hw _) rfl ⟨rfl, rfl⟩ ⟨Nat.le_of_ble_eq_true rfl, Nat.le_of_ble_eq_true rfl⟩ rfl (Nat.le_of_ble_eq_true rfl) ⟨Nat.le_of_ble_eq_true rfl, Nat.le_of_ble_eq_true rfl⟩ (fun w hw => ?_)
    exact v_iret hX dX8_begunBy_25 hR (Nat.le_of_ble_eq_true rfl) (Nat.le_of_ble_eq_true rfl) (⟨(by first | (rw [tw_bgb, if_neg c_17]; done) | (rw [tw_bgb, if_neg c_17]; rfl)), hw.to (by first | (rw [tw_bgb, if_neg c_17]; done) | (rw [tw_bgb, if_neg c_17]; rfl))⟩)
theorem cf_X8_temperature : CF RX8 yX8_temperature cX8_temperature 3 (some .int) 2 := ⟨q2490, q2491, q150, q2492, by decide +kernel⟩
theorem mX8_temperature {Γ : Gm} {l : Launch} {G : Nat → Nat} {wB : Wd} {x : TS} {w : Wd} (hw : tW Γ G wB x w) (hP : tP x) (d t : Int32) : M0 Γ l yX8_temperature (ws_ yX8_temperature cX8_temperature 3 (some .int)) (rl 9 0 0) 0 0 [.ref (G 61), .int d, .int t] w (fun r9 w9 => r9 = some (.int (tw_dt 54 d t x).1) ∧ tW Γ G wB ((tw_dt 54 d t x).2) w9) := by
  refine M0.of (lv := [some (.ref (G 61)), some (.int d), some (.int t)]) (by decide) (Nat.le_of_ble_eq_true rfl) 0 rfl rfl ?_
  intro X hX hR hl hG hnm
  subst hl; subst hG
  refine v_aload_n hX dX8_temperature_0 rfl ?_
  refine v_iconst hX dX8_temperature_1 li0 ?_
  refine tv_putI hX dX8_temperature_2 hw 0 (by decide) rfl q1909 rfl (by decide +kernel) (fun w hw => ?_)
  refine v_aload_n hX dX8_temperature_5 rfl ?_
  refine v_iload_n hX dX8_temperature_6 rfl ?_
  refine tv_callR hX rfl dX8_temperature_7 q2480 cf_X8_isDeck hw (mX8_isDeck hw (tPz hP) _) rfl ⟨rfl, rfl⟩ ⟨Nat.le_of_ble_eq_true rfl, Nat.le_of_ble_eq_true rfl⟩ rfl (Nat.le_of_ble_eq_true rfl) ⟨Nat.le_of_ble_eq_true rfl, Nat.le_of_ble_eq_true rfl⟩ ?_
  refine v_ifb_eq (tgt := 20) hX dX8_temperature_10 rfl (fun c_10 => ?_) (fun c_10 => ?_)
  · refine v_aload_n hX dX8_temperature_20 rfl ?_
    refine v_iconst hX dX8_temperature_21 li1 ?_
    refine tv_callV hX rfl dX8_temperature_22 q2103 cf_X8_fails hw (mX8_fails hw _) rfl ⟨rfl, rfl⟩ ⟨Nat.le_of_ble_eq_true rfl, Nat.le_of_ble_eq_true rfl⟩ rfl (Nat.le_of_ble_eq_true rfl) ⟨Nat.le_of_ble_eq_true rfl, Nat.le_of_ble_eq_true rfl⟩ (fun w hw => ?_)
    exact v_iret hX dX8_temperature_25 hR (Nat.le_of_ble_eq_true rfl) (Nat.le_of_ble_eq_true rfl) (⟨(by first | (rw [tw_dt, if_neg c_10]; done) | (rw [tw_dt, if_neg c_10]; rfl)), hw.to (by first | (rw [tw_dt, if_neg c_10]; done) | (rw [tw_dt, if_neg c_10]; rfl))⟩)
  · refine v_iload_n hX dX8_temperature_13 rfl ?_
    refine v_callSr hX rfl dX8_temperature_14 q2493 cs_X8_isMinute (mX8_isMinute _) rfl ⟨rfl, rfl⟩ ⟨Nat.le_of_ble_eq_true rfl, Nat.le_of_ble_eq_true rfl⟩ rfl (Nat.le_of_ble_eq_true rfl) ⟨Nat.le_of_ble_eq_true rfl, Nat.le_of_ble_eq_true rfl⟩ ?_
    refine v_ifb_ne (tgt := 26) hX dX8_temperature_17 rfl (fun c_17 => ?_) (fun c_17 => ?_)
    · refine v_aload_n hX dX8_temperature_26 rfl ?_
      refine tv_call0 hX rfl dX8_temperature_27 q2293 cf_X8_plays hw (mX8_plays1 hw (tPz hP)) rfl ⟨rfl, rfl⟩ ⟨Nat.le_of_ble_eq_true rfl, Nat.le_of_ble_eq_true rfl⟩ rfl (Nat.le_of_ble_eq_true rfl) ⟨Nat.le_of_ble_eq_true rfl, Nat.le_of_ble_eq_true rfl⟩ (fun w hw => ?_)
      refine v_aload_n hX dX8_temperature_30 rfl ?_
      refine tv_getA hX dX8_temperature_31 hw 54 (by decide) rfl q1963 ?_
      refine v_sipush hX dX8_temperature_34 ls1440 ?_
      refine v_iload_n hX dX8_temperature_37 rfl ?_
      refine v_imul hX dX8_temperature_38 ?_
      refine v_iload_n hX dX8_temperature_39 rfl ?_
      refine v_iadd hX dX8_temperature_40 ?_
      refine tv_iald hX dX8_temperature_41 hw (by decide) rfl rfl (nidx2 (isK (n := 1439) (by decide) c_17) (vmono (isn (tPz hP).2.2.2.1.2.2 (Nat.le_trans (tPz hP).2.2.2.1.2.1 (by decide)) c_10) (tPz hP).2.2.2.1.2.1)) ?_
      exact v_iret hX dX8_temperature_42 hR (Nat.le_of_ble_eq_true rfl) (Nat.le_of_ble_eq_true rfl) (⟨(by first | (rw [tw_dt, if_pos c_10, if_pos c_17]; done) | (rw [tw_dt, if_pos c_10, if_pos c_17]; rfl)), hw.to (by first | (rw [tw_dt, if_pos c_10, if_pos c_17]; done) | (rw [tw_dt, if_pos c_10, if_pos c_17]; rfl))⟩)
    · refine v_aload_n hX dX8_temperature_20 rfl ?_
      refine v_iconst hX dX8_temperature_21 li1 ?_
      refine tv_callV hX rfl dX8_temperature_22 q2103 cf_X8_fails hw (mX8_fails hw _) rfl ⟨rfl, rfl⟩ ⟨Nat.le_of_ble_eq_true rfl, Nat.le_of_ble_eq_true rfl⟩ rfl (Nat.le_of_ble_eq_true rfl) ⟨Nat.le_of_ble_eq_true rfl, Nat.le_of_ble_eq_true rfl⟩ (fun w hw => ?_)
      exact v_iret hX dX8_temperature_25 hR (Nat.le_of_ble_eq_true rfl) (Nat.le_of_ble_eq_true rfl) (⟨(by first | (rw [tw_dt, if_pos c_10, if_neg c_17]; done) | (rw [tw_dt, if_pos c_10, if_neg c_17]; rfl)), hw.to (by first | (rw [tw_dt, if_pos c_10, if_neg c_17]; done) | (rw [tw_dt, if_pos c_10, if_neg c_17]; rfl))⟩)
theorem cf_X8_baking : CF RX8 yX8_baking cX8_baking 3 (some .int) 2 := ⟨q2497, q2498, q150, q2499, by decide +kernel⟩
theorem mX8_baking {Γ : Gm} {l : Launch} {G : Nat → Nat} {wB : Wd} {x : TS} {w : Wd} (hw : tW Γ G wB x w) (hP : tP x) (d t : Int32) : M0 Γ l yX8_baking (ws_ yX8_baking cX8_baking 3 (some .int)) (rl 9 0 0) 0 0 [.ref (G 61), .int d, .int t] w (fun r9 w9 => r9 = some (.int (tw_dt 55 d t x).1) ∧ tW Γ G wB ((tw_dt 55 d t x).2) w9) := by
  refine M0.of (lv := [some (.ref (G 61)), some (.int d), some (.int t)]) (by decide) (Nat.le_of_ble_eq_true rfl) 0 rfl rfl ?_
  intro X hX hR hl hG hnm
  subst hl; subst hG
  refine v_aload_n hX dX8_baking_0 rfl ?_
  refine v_iconst hX dX8_baking_1 li0 ?_
  refine tv_putI hX dX8_baking_2 hw 0 (by decide) rfl q1909 rfl (by decide +kernel) (fun w hw => ?_)
  refine v_aload_n hX dX8_baking_5 rfl ?_
  refine v_iload_n hX dX8_baking_6 rfl ?_
  refine tv_callR hX rfl dX8_baking_7 q2480 cf_X8_isDeck hw (mX8_isDeck hw (tPz hP) _) rfl ⟨rfl, rfl⟩ ⟨Nat.le_of_ble_eq_true rfl, Nat.le_of_ble_eq_true rfl⟩ rfl (Nat.le_of_ble_eq_true rfl) ⟨Nat.le_of_ble_eq_true rfl, Nat.le_of_ble_eq_true rfl⟩ ?_
  refine v_ifb_eq (tgt := 20) hX dX8_baking_10 rfl (fun c_10 => ?_) (fun c_10 => ?_)
  · refine v_aload_n hX dX8_baking_20 rfl ?_
    refine v_iconst hX dX8_baking_21 li1 ?_
    refine tv_callV hX rfl dX8_baking_22 q2103 cf_X8_fails hw (mX8_fails hw _) rfl ⟨rfl, rfl⟩ ⟨Nat.le_of_ble_eq_true rfl, Nat.le_of_ble_eq_true rfl⟩ rfl (Nat.le_of_ble_eq_true rfl) ⟨Nat.le_of_ble_eq_true rfl, Nat.le_of_ble_eq_true rfl⟩ (fun w hw => ?_)
    exact v_iret hX dX8_baking_25 hR (Nat.le_of_ble_eq_true rfl) (Nat.le_of_ble_eq_true rfl) (⟨(by first | (rw [tw_dt, if_neg c_10]; done) | (rw [tw_dt, if_neg c_10]; rfl)), hw.to (by first | (rw [tw_dt, if_neg c_10]; done) | (rw [tw_dt, if_neg c_10]; rfl))⟩)
  · refine v_iload_n hX dX8_baking_13 rfl ?_
    refine v_callSr hX rfl dX8_baking_14 q2493 cs_X8_isMinute (mX8_isMinute _) rfl ⟨rfl, rfl⟩ ⟨Nat.le_of_ble_eq_true rfl, Nat.le_of_ble_eq_true rfl⟩ rfl (Nat.le_of_ble_eq_true rfl) ⟨Nat.le_of_ble_eq_true rfl, Nat.le_of_ble_eq_true rfl⟩ ?_
    refine v_ifb_ne (tgt := 26) hX dX8_baking_17 rfl (fun c_17 => ?_) (fun c_17 => ?_)
    · refine v_aload_n hX dX8_baking_26 rfl ?_
      refine tv_call0 hX rfl dX8_baking_27 q2293 cf_X8_plays hw (mX8_plays1 hw (tPz hP)) rfl ⟨rfl, rfl⟩ ⟨Nat.le_of_ble_eq_true rfl, Nat.le_of_ble_eq_true rfl⟩ rfl (Nat.le_of_ble_eq_true rfl) ⟨Nat.le_of_ble_eq_true rfl, Nat.le_of_ble_eq_true rfl⟩ (fun w hw => ?_)
      refine v_aload_n hX dX8_baking_30 rfl ?_
      refine tv_getA hX dX8_baking_31 hw 55 (by decide) rfl q1964 ?_
      refine v_sipush hX dX8_baking_34 ls1440 ?_
      refine v_iload_n hX dX8_baking_37 rfl ?_
      refine v_imul hX dX8_baking_38 ?_
      refine v_iload_n hX dX8_baking_39 rfl ?_
      refine v_iadd hX dX8_baking_40 ?_
      refine tv_iald hX dX8_baking_41 hw (by decide) rfl rfl (nidx2 (isK (n := 1439) (by decide) c_17) (vmono (isn (tPz hP).2.2.2.1.2.2 (Nat.le_trans (tPz hP).2.2.2.1.2.1 (by decide)) c_10) (tPz hP).2.2.2.1.2.1)) ?_
      exact v_iret hX dX8_baking_42 hR (Nat.le_of_ble_eq_true rfl) (Nat.le_of_ble_eq_true rfl) (⟨(by first | (rw [tw_dt, if_pos c_10, if_pos c_17]; done) | (rw [tw_dt, if_pos c_10, if_pos c_17]; rfl)), hw.to (by first | (rw [tw_dt, if_pos c_10, if_pos c_17]; done) | (rw [tw_dt, if_pos c_10, if_pos c_17]; rfl))⟩)
    · refine v_aload_n hX dX8_baking_20 rfl ?_
      refine v_iconst hX dX8_baking_21 li1 ?_
      refine tv_callV hX rfl dX8_baking_22 q2103 cf_X8_fails hw (mX8_fails hw _) rfl ⟨rfl, rfl⟩ ⟨Nat.le_of_ble_eq_true rfl, Nat.le_of_ble_eq_true rfl⟩ rfl (Nat.le_of_ble_eq_true rfl) ⟨Nat.le_of_ble_eq_true rfl, Nat.le_of_ble_eq_true rfl⟩ (fun w hw => ?_)
      exact v_iret hX dX8_baking_25 hR (Nat.le_of_ble_eq_true rfl) (Nat.le_of_ble_eq_true rfl) (⟨(by first | (rw [tw_dt, if_pos c_10, if_neg c_17]; done) | (rw [tw_dt, if_pos c_10, if_neg c_17]; rfl)), hw.to (by first | (rw [tw_dt, if_pos c_10, if_neg c_17]; done) | (rw [tw_dt, if_pos c_10, if_neg c_17]; rfl))⟩)
theorem cf_X8_inRoom : CF RX8 yX8_inRoom cX8_inRoom 2 (some .int) 1 := ⟨q2501, q2502, q150, q2503, by decide +kernel⟩
theorem mX8_inRoom {Γ : Gm} {l : Launch} {G : Nat → Nat} {wB : Wd} {x : TS} {w : Wd} (hw : tW Γ G wB x w) (hP : tP x) (t : Int32) : M0 Γ l yX8_inRoom (ws_ yX8_inRoom cX8_inRoom 2 (some .int)) (rl 9 0 0) 0 0 [.ref (G 61), .int t] w (fun r9 w9 => r9 = some (.int (tw_mt 56 t x).1) ∧ tW Γ G wB ((tw_mt 56 t x).2) w9) := by
  refine M0.of (lv := [some (.ref (G 61)), some (.int t)]) (by decide) (Nat.le_of_ble_eq_true rfl) 0 rfl rfl ?_
  intro X hX hR hl hG hnm
  subst hl; subst hG
  refine v_aload_n hX dX8_inRoom_0 rfl ?_
  refine v_iconst hX dX8_inRoom_1 li0 ?_
  refine tv_putI hX dX8_inRoom_2 hw 0 (by decide) rfl q1909 rfl (by decide +kernel) (fun w hw => ?_)
  refine v_iload_n hX dX8_inRoom_5 rfl ?_
  refine v_callSr hX rfl dX8_inRoom_6 q2493 cs_X8_isMinute (mX8_isMinute _) rfl ⟨rfl, rfl⟩ ⟨Nat.le_of_ble_eq_true rfl, Nat.le_of_ble_eq_true rfl⟩ rfl (Nat.le_of_ble_eq_true rfl) ⟨Nat.le_of_ble_eq_true rfl, Nat.le_of_ble_eq_true rfl⟩ ?_
  refine v_ifb_ne (tgt := 18) hX dX8_inRoom_9 rfl (fun c_9 => ?_) (fun c_9 => ?_)
  · refine v_aload_n hX dX8_inRoom_18 rfl ?_
    refine tv_call0 hX rfl dX8_inRoom_19 q2293 cf_X8_plays hw (mX8_plays1 hw (tPz hP)) rfl ⟨rfl, rfl⟩ ⟨Nat.le_of_ble_eq_true rfl, Nat.le_of_ble_eq_true rfl⟩ rfl (Nat.le_of_ble_eq_true rfl) ⟨Nat.le_of_ble_eq_true rfl, Nat.le_of_ble_eq_true rfl⟩ (fun w hw => ?_)
    refine v_aload_n hX dX8_inRoom_22 rfl ?_
    refine tv_getA hX dX8_inRoom_23 hw 56 (by decide) rfl q1965 ?_
    refine v_iload_n hX dX8_inRoom_26 rfl ?_
    refine tv_iald hX dX8_inRoom_27 hw (by decide) rfl rfl (isK (n := 1439) (by decide) c_9) ?_
    exact v_iret hX dX8_inRoom_28 hR (Nat.le_of_ble_eq_true rfl) (Nat.le_of_ble_eq_true rfl) (⟨(by first | (rw [tw_mt, if_pos c_9]; done) | (rw [tw_mt, if_pos c_9]; rfl)), hw.to (by first | (rw [tw_mt, if_pos c_9]; done) | (rw [tw_mt, if_pos c_9]; rfl))⟩)
  · refine v_aload_n hX dX8_inRoom_12 rfl ?_
    refine v_iconst hX dX8_inRoom_13 li1 ?_
    refine tv_callV hX rfl dX8_inRoom_14 q2103 cf_X8_fails hw (mX8_fails hw _) rfl ⟨rfl, rfl⟩ ⟨Nat.le_of_ble_eq_true rfl, Nat.le_of_ble_eq_true rfl⟩ rfl (Nat.le_of_ble_eq_true rfl) ⟨Nat.le_of_ble_eq_true rfl, Nat.le_of_ble_eq_true rfl⟩ (fun w hw => ?_)
    exact v_iret hX dX8_inRoom_17 hR (Nat.le_of_ble_eq_true rfl) (Nat.le_of_ble_eq_true rfl) (⟨(by first | (rw [tw_mt, if_neg c_9]; done) | (rw [tw_mt, if_neg c_9]; rfl)), hw.to (by first | (rw [tw_mt, if_neg c_9]; done) | (rw [tw_mt, if_neg c_9]; rfl))⟩)
theorem cf_X8_onShelves : CF RX8 yX8_onShelves cX8_onShelves 2 (some .int) 1 := ⟨q2505, q2506, q150, q2507, by decide +kernel⟩
theorem mX8_onShelves {Γ : Gm} {l : Launch} {G : Nat → Nat} {wB : Wd} {x : TS} {w : Wd} (hw : tW Γ G wB x w) (hP : tP x) (t : Int32) : M0 Γ l yX8_onShelves (ws_ yX8_onShelves cX8_onShelves 2 (some .int)) (rl 9 0 0) 0 0 [.ref (G 61), .int t] w (fun r9 w9 => r9 = some (.int (tw_mt 57 t x).1) ∧ tW Γ G wB ((tw_mt 57 t x).2) w9) := by
  refine M0.of (lv := [some (.ref (G 61)), some (.int t)]) (by decide) (Nat.le_of_ble_eq_true rfl) 0 rfl rfl ?_
  intro X hX hR hl hG hnm
  subst hl; subst hG
  refine v_aload_n hX dX8_onShelves_0 rfl ?_
  refine v_iconst hX dX8_onShelves_1 li0 ?_
  refine tv_putI hX dX8_onShelves_2 hw 0 (by decide) rfl q1909 rfl (by decide +kernel) (fun w hw => ?_)
  refine v_iload_n hX dX8_onShelves_5 rfl ?_
  refine v_callSr hX rfl dX8_onShelves_6 q2493 cs_X8_isMinute (mX8_isMinute _) rfl ⟨rfl, rfl⟩ ⟨Nat.le_of_ble_eq_true rfl, Nat.le_of_ble_eq_true rfl⟩ rfl (Nat.le_of_ble_eq_true rfl) ⟨Nat.le_of_ble_eq_true rfl, Nat.le_of_ble_eq_true rfl⟩ ?_
  refine v_ifb_ne (tgt := 18) hX dX8_onShelves_9 rfl (fun c_9 => ?_) (fun c_9 => ?_)
  · refine v_aload_n hX dX8_onShelves_18 rfl ?_
    refine tv_call0 hX rfl dX8_onShelves_19 q2293 cf_X8_plays hw (mX8_plays1 hw (tPz hP)) rfl ⟨rfl, rfl⟩ ⟨Nat.le_of_ble_eq_true rfl, Nat.le_of_ble_eq_true rfl⟩ rfl (Nat.le_of_ble_eq_true rfl) ⟨Nat.le_of_ble_eq_true rfl, Nat.le_of_ble_eq_true rfl⟩ (fun w hw => ?_)
    refine v_aload_n hX dX8_onShelves_22 rfl ?_
    refine tv_getA hX dX8_onShelves_23 hw 57 (by decide) rfl q1966 ?_
    refine v_iload_n hX dX8_onShelves_26 rfl ?_
    refine tv_iald hX dX8_onShelves_27 hw (by decide) rfl rfl (isK (n := 1439) (by decide) c_9) ?_
    exact v_iret hX dX8_onShelves_28 hR (Nat.le_of_ble_eq_true rfl) (Nat.le_of_ble_eq_true rfl) (⟨(by first | (rw [tw_mt, if_pos c_9]; done) | (rw [tw_mt, if_pos c_9]; rfl)), hw.to (by first | (rw [tw_mt, if_pos c_9]; done) | (rw [tw_mt, if_pos c_9]; rfl))⟩)
  · refine v_aload_n hX dX8_onShelves_12 rfl ?_
    refine v_iconst hX dX8_onShelves_13 li1 ?_
    refine tv_callV hX rfl dX8_onShelves_14 q2103 cf_X8_fails hw (mX8_fails hw _) rfl ⟨rfl, rfl⟩ ⟨Nat.le_of_ble_eq_true rfl, Nat.le_of_ble_eq_true rfl⟩ rfl (Nat.le_of_ble_eq_true rfl) ⟨Nat.le_of_ble_eq_true rfl, Nat.le_of_ble_eq_true rfl⟩ (fun w hw => ?_)
    exact v_iret hX dX8_onShelves_17 hR (Nat.le_of_ble_eq_true rfl) (Nat.le_of_ble_eq_true rfl) (⟨(by first | (rw [tw_mt, if_neg c_9]; done) | (rw [tw_mt, if_neg c_9]; rfl)), hw.to (by first | (rw [tw_mt, if_neg c_9]; done) | (rw [tw_mt, if_neg c_9]; rfl))⟩)
end
