/-! the twin: texts, more statements -/
noncomputable section
set_option maxRecDepth 100000
theorem lb70 : (Int8.ofInt (70)).toInt32 = 70 := by decide +kernel
theorem lb77 : (Int8.ofInt (77)).toInt32 = 77 := by decide +kernel
theorem lb78 : (Int8.ofInt (78)).toInt32 = 78 := by decide +kernel
theorem lb79 : (Int8.ofInt (79)).toInt32 = 79 := by decide +kernel
theorem ls999 : (Int16.ofInt (999)).toInt32 = 999 := by decide +kernel
def tw_rv1 (x : TS) : TS := tw_go (tw_must (bi (¬ 6 ≤ x.1 28)) x)
def tw_rvf (y : TS) : Int32 := if y.1 28 = 0 then 0 else tA y 31 (y.1 28 - 1) + 1
def tw_rv2 (v : Int32) (y : TS) : TS := if y.1 26 = -1 then (fun y => sI y 28 (y.1 28 + 1)) (tU y 31 (y.1 28) v) else y
def tw_rv (x : TS) : TS := tw_rv2 (tw_val (tw_rvf (tw_rv1 x)) 1439 (tw_rv1 x)).1 (tw_val (tw_rvf (tw_rv1 x)) 1439 (tw_rv1 x)).2
theorem nw_lt {x : TS} (hr : tR x) (h : ¬ 6 ≤ x.1 28) : vp_in (x.1 28) 6 := by
  rw [hr.2.2.2.1] at h ⊢
  have h1 := hr.2.2.1
  refine vnI ?_ (by decide)
  rcases Nat.lt_or_ge (nw x) 6 with z | z
  · exact z
  · exact absurd (nI_le z (by omega)) h
theorem nw_m1 {x : TS} (hr : tR x) (h : ¬ x.1 28 = 0) : vp_in (x.1 28 - 1) 6 := by
  rw [hr.2.2.2.1] at h ⊢
  have h1 := hr.2.2.1
  obtain ⟨j, hj⟩ : ∃ j, nw x = j + 1 := ⟨nw x - 1, by rcases Nat.eq_zero_or_pos (nw x) with z | z; (rw [z] at h; exact absurd rfl h); omega⟩
  rw [hj, nI_pred]
  exact vnI (by omega) (by decide)
theorem rv_w {x : TS} (h : tRX x) {lo hi : Int32} (hw : (tw_val lo hi (tw_rv1 x)).2.1 26 = -1) : ¬ 6 ≤ x.1 28 := by
  have h1 := (val_w h.must.go.2.1 hw).1
  exact bi_n0.mp (must_w h.2.1 (go_w h1)).1
theorem val_j {lo hi : Int32} {x : TS} {j : Nat} (a : j ≠ 21) (b : j ≠ 22) (c : j ≠ 23) (d : j ≠ 24) (e : j ≠ 26) : (tw_val lo hi x).2.1 j = x.1 j := val_Rd.1 j a b c d e
theorem go_j {x : TS} {j : Nat} (a : j ≠ 21) (b : j ≠ 22) (c : j ≠ 23) (d : j ≠ 24) (e : j ≠ 26) : (tw_go x).1 j = x.1 j := go_Rd.1 j a b c d e
theorem rv_28 {x : TS} {lo hi : Int32} : (tw_val lo hi (tw_rv1 x)).2.1 28 = x.1 28 := (val_j (by decide) (by decide) (by decide) (by decide) (by decide)).trans ((go_j (by decide) (by decide) (by decide) (by decide) (by decide)).trans (must_j (by decide)))
theorem cf_X8_readWave : CF RX8 yX8_readWave cX8_readWave 3 none 0 := ⟨q2197, qs58, q150, q2198, by decide +kernel⟩
theorem mX8_readWave {Γ : Gm} {l : Launch} {G : Nat → Nat} {wB : Wd} {x : TS} {w : Wd} (hw : tW Γ G wB x w) (hx : tRX x) : M0 Γ l yX8_readWave (ws_ yX8_readWave cX8_readWave 3 none) (rl 5 0 0) 0 0 [.ref (G 61)] w (fun r9 w9 => r9 = none ∧ tW Γ G wB (tw_rv x) w9) := by
  refine M0.of (lv := [some (.ref (G 61)), none, none]) (by decide) (Nat.le_of_ble_eq_true rfl) 2 rfl rfl ?_
  intro X hX hR hl hG hnm
  subst hl; subst hG
  refine v_aload_n hX dX8_readWave_0 rfl ?_
  refine v_join 15 (.int (bi (¬ 6 ≤ x.1 28))) ?_ (fun hj => ?_)
  · refine tv_call0 hX rfl dX8_readWave_15 q2175 cf_X8_must hw (mX8_must hw _) rfl ⟨rfl, rfl⟩ ⟨Nat.le_of_ble_eq_true rfl, Nat.le_of_ble_eq_true rfl⟩ rfl (Nat.le_of_ble_eq_true rfl) ⟨Nat.le_of_ble_eq_true rfl, Nat.le_of_ble_eq_true rfl⟩ (fun w hw => ?_)
    refine v_aload_n hX dX8_readWave_18 rfl ?_
    refine tv_call0 hX rfl dX8_readWave_19 q2179 cf_X8_goesOn hw (mX8_goesOn hw hx.must.1) rfl ⟨rfl, rfl⟩ ⟨Nat.le_of_ble_eq_true rfl, Nat.le_of_ble_eq_true rfl⟩ rfl (Nat.le_of_ble_eq_true rfl) ⟨Nat.le_of_ble_eq_true rfl, Nat.le_of_ble_eq_true rfl⟩ (fun w hw => ?_)
    obtain ⟨y1, hy1⟩ : ∃ z, z = tw_rv1 x := ⟨_, rfl⟩
    have hw : tW (xG X) G wB y1 w := hw.to hy1
    have ry1 : tRX y1 := by rw [hy1]; exact hx.must.go
    refine v_join 46 (.int (tw_rvf y1)) ?_ (fun hj => ?_)
    · refine v_istore_n (lv' := [_, _, _]) hX dX8_readWave_46 (Nat.le_of_ble_eq_true rfl) rfl rfl ?_
      refine v_aload_n hX dX8_readWave_47 rfl ?_
      refine v_iload_n hX dX8_readWave_48 rfl ?_
      refine v_sipush hX dX8_readWave_49 ls1439 ?_
      refine tv_callV hX rfl dX8_readWave_52 q2187 cf_X8_readValue hw (mX8_readValue hw ry1.1 _ _) rfl ⟨rfl, rfl⟩ ⟨Nat.le_of_ble_eq_true rfl, Nat.le_of_ble_eq_true rfl⟩ rfl (Nat.le_of_ble_eq_true rfl) ⟨Nat.le_of_ble_eq_true rfl, Nat.le_of_ble_eq_true rfl⟩ (fun w hw => ?_)
      refine v_istore_n (lv' := [_, _, _]) hX dX8_readWave_55 (Nat.le_of_ble_eq_true rfl) rfl rfl ?_
      obtain ⟨y2, hy2⟩ : ∃ z, z = (tw_val (tw_rvf y1) 1439 y1).2 := ⟨_, rfl⟩
      have hw : tW (xG X) G wB y2 w := hw.to hy2
      have hb : y2.1 26 = -1 → vp_in (y2.1 28) 6 := fun q => by rw [hy2, hy1] at q ⊢; rw [rv_28]; exact nw_lt hx.2.2 (rv_w hx q)
      refine v_aload_n hX dX8_readWave_56 rfl ?_
      refine tv_callR hX rfl dX8_readWave_57 q2152 cf_X8_isWell hw (mX8_isWell hw) rfl ⟨rfl, rfl⟩ ⟨Nat.le_of_ble_eq_true rfl, Nat.le_of_ble_eq_true rfl⟩ rfl (Nat.le_of_ble_eq_true rfl) ⟨Nat.le_of_ble_eq_true rfl, Nat.le_of_ble_eq_true rfl⟩ ?_
      refine v_ifb_ne (tgt := 64) hX dX8_readWave_60 rfl (fun c_60 => ?_) (fun c_60 => ?_)
      · refine v_aload_n hX dX8_readWave_64 rfl ?_
        refine tv_getA hX dX8_readWave_65 hw 31 (by decide) rfl q1940 ?_
        refine v_aload_n hX dX8_readWave_68 rfl ?_
        refine tv_getI hX dX8_readWave_69 hw 28 (by decide) rfl q1937 ?_
        refine v_iload_n hX dX8_readWave_72 rfl ?_
        refine tv_iast hX dX8_readWave_73 hw (by decide) rfl rfl (hb c_60) (fun w hw => ?_)
        refine v_aload_n hX dX8_readWave_74 rfl ?_
        refine v_dup hX dX8_readWave_75 rfl ?_
        refine tv_getI hX dX8_readWave_76 hw 28 (by decide) rfl q1937 ?_
        refine v_iconst hX dX8_readWave_79 li1 ?_
        refine v_iadd hX dX8_readWave_80 ?_
        refine tv_putI hX dX8_readWave_81 hw 28 (by decide) rfl q1937 rfl (by decide +kernel) (fun w hw => ?_)
        exact v_vret hX dX8_readWave_84 hR (Nat.le_of_ble_eq_true rfl) (Nat.le_of_ble_eq_true rfl) (⟨rfl, hw.to (by rw [tw_rv, ← hy1, ← hy2, tw_rv2, if_pos c_60])⟩)
      · exact v_vret hX dX8_readWave_63 hR (Nat.le_of_ble_eq_true rfl) (Nat.le_of_ble_eq_true rfl) (⟨rfl, hw.to (by rw [tw_rv, ← hy1, ← hy2, tw_rv2, if_neg c_60])⟩)
    · refine v_aload_n hX dX8_readWave_22 rfl ?_
      refine tv_getI hX dX8_readWave_23 hw 28 (by decide) rfl q1937 ?_
      refine v_if_ne (tgt := 33) hX dX8_readWave_26 rfl (fun c_26 => ?_) (fun c_26 => ?_)
      · refine v_aload_n hX dX8_readWave_33 rfl ?_
        refine tv_getA hX dX8_readWave_34 hw 31 (by decide) rfl q1940 ?_
        refine v_aload_n hX dX8_readWave_37 rfl ?_
        refine tv_getI hX dX8_readWave_38 hw 28 (by decide) rfl q1937 ?_
        refine v_iconst hX dX8_readWave_41 li1 ?_
        refine v_isub hX dX8_readWave_42 ?_
        refine tv_iald hX dX8_readWave_43 hw (by decide) rfl rfl (nw_m1 ry1.2.2 c_26) ?_
        refine v_iconst hX dX8_readWave_44 li1 ?_
        refine v_iadd hX dX8_readWave_45 ?_
        exact V.at rfl rfl (by rw [tw_rvf, if_neg c_26]) hj
      · refine v_iconst hX dX8_readWave_29 li0 ?_
        refine v_goto (tgt := 46) hX dX8_readWave_30 rfl ?_
        exact V.at rfl rfl (by rw [tw_rvf, if_pos c_26]) hj
  · refine v_aload_n hX dX8_readWave_1 rfl ?_
    refine tv_getI hX dX8_readWave_2 hw 28 (by decide) rfl q1937 ?_
    refine v_bipush hX dX8_readWave_5 lb6 ?_
    refine v_icmp_ge (tgt := 14) hX dX8_readWave_7 rfl (fun c_7 => ?_) (fun c_7 => ?_)
    · refine v_iconst hX dX8_readWave_14 li0 ?_
      exact V.at rfl rfl (by simp [bi, c_7]) hj
    · refine v_iconst hX dX8_readWave_10 li1 ?_
      refine v_goto (tgt := 15) hX dX8_readWave_11 rfl ?_
      exact V.at rfl rfl (by simp [bi, c_7]) hj
def tw_rb1 (b : Int32) (x : TS) : TS := tw_go (tw_must (bi (¬ 20 ≤ b)) x)
def tw_rb2 (p : Int32) (y : TS) : TS := tw_go (tw_must (bi (¬ p = -1)) y)
def tw_rb3 (b p st v : Int32) (y : TS) : TS := if y.1 26 = -1 then tU (tU (tU (tU y 1 (79 + 3 * b + 0) p) 1 (79 + 3 * b + 1) st) 1 (79 + 3 * b + 2) v) 1 78 (b + 1) else y
def tw_rb4 (b p st : Int32) (y : TS) : TS := tw_rb3 b p st (tw_val 0 (y.1 28 - 1) y).1 (tw_val 0 (y.1 28 - 1) y).2
def tw_rb5 (b p : Int32) (y : TS) : TS := tw_rb4 b p (tw_val 0 999 y).1 (tw_val 0 999 y).2
def tw_rb6 (b : Int32) (y : TS) : TS := tw_rb5 b (tw_ph y) (tw_rb2 (tw_ph y) y)
def tw_rb (x : TS) : TS := tw_rb6 (tA x 1 78) (tw_rb1 (tA x 1 78) x)
theorem nb_lt {x : TS} (hr : tR x) (h : ¬ 20 ≤ tA x 1 78) : vp_in (tA x 1 78) 20 := by
  have e : tA x 1 78 = nI (nbt x) := hr.2.2.2.2.2
  rw [e] at h ⊢
  have h1 := hr.2.2.2.2.1
  refine vnI ?_ (by decide)
  rcases Nat.lt_or_ge (nbt x) 20 with z | z
  · exact z
  · exact absurd (nI_le z (by omega)) h
theorem b79 {b i : Int32} (hb : vp_in b 20) (hi : vp_in i 3) : vp_in (79 + 3 * b + i) 840 := by
  obtain ⟨j, hj, rfl⟩ := vp_in_of hi (by decide)
  obtain ⟨c, hc, rfl⟩ := vp_in_of hb (by decide)
  rw [show (79 : Int32) = nI 79 from rfl, show (3 : Int32) = nI 3 from rfl, pk_mul, nI_add, nI_add]; exact vp_in_nI (by omega) (by decide)
theorem rb_w {x : TS} (h : tRX x) {p lo hi lo2 hi2 : Int32} (hw : (tw_val lo hi (tw_val lo2 hi2 (tw_rb2 p (tw_rb1 (tA x 1 78) x))).2).2.1 26 = -1) : ¬ 20 ≤ tA x 1 78 := by
  have h1 := (val_w h.must.go.must.go.val.2.1 hw).1
  have h2 := (val_w h.must.go.must.go.2.1 h1).1
  have h3 := (must_w h.must.go.2.1 (go_w h2)).2
  exact bi_n0.mp (must_w h.2.1 (go_w h3)).1
theorem cf_X8_readBatch : CF RX8 yX8_readBatch cX8_readBatch 6 none 0 := ⟨q2201, qs59, q150, q2202, by decide +kernel⟩
theorem mX8_readBatch {Γ : Gm} {l : Launch} {G : Nat → Nat} {wB : Wd} {x : TS} {w : Wd} (hw : tW Γ G wB x w) (hx : tRX x) : M0 Γ l yX8_readBatch (ws_ yX8_readBatch cX8_readBatch 6 none) (rl 5 0 0) 0 0 [.ref (G 61)] w (fun r9 w9 => r9 = none ∧ tW Γ G wB (tw_rb x) w9) := by
  refine M0.of (lv := [some (.ref (G 61)), none, none, none, none, none]) (by decide) (Nat.le_of_ble_eq_true rfl) 5 rfl rfl ?_
  intro X hX hR hl hG hnm
  subst hl; subst hG
  refine v_aload_n hX dX8_readBatch_0 rfl ?_
  refine tv_getA hX dX8_readBatch_1 hw 1 (by decide) rfl q1910 ?_
  refine v_bipush hX dX8_readBatch_4 lb78 ?_
  refine tv_iald hX dX8_readBatch_6 hw (by decide) rfl rfl (vin (by decide)) ?_
  refine v_istore_n (lv' := [_, _, _, _, _, _]) hX dX8_readBatch_7 (Nat.le_of_ble_eq_true rfl) rfl rfl ?_
  refine v_aload_n hX dX8_readBatch_8 rfl ?_
  refine v_join 20 (.int (bi (¬ 20 ≤ tA x 1 78))) ?_ (fun hj => ?_)
  · refine tv_call0 hX rfl dX8_readBatch_20 q2175 cf_X8_must hw (mX8_must hw _) rfl ⟨rfl, rfl⟩ ⟨Nat.le_of_ble_eq_true rfl, Nat.le_of_ble_eq_true rfl⟩ rfl (Nat.le_of_ble_eq_true rfl) ⟨Nat.le_of_ble_eq_true rfl, Nat.le_of_ble_eq_true rfl⟩ (fun w hw => ?_)
    refine v_aload_n hX dX8_readBatch_23 rfl ?_
    refine tv_call0 hX rfl dX8_readBatch_24 q2179 cf_X8_goesOn hw (mX8_goesOn hw hx.must.1) rfl ⟨rfl, rfl⟩ ⟨Nat.le_of_ble_eq_true rfl, Nat.le_of_ble_eq_true rfl⟩ rfl (Nat.le_of_ble_eq_true rfl) ⟨Nat.le_of_ble_eq_true rfl, Nat.le_of_ble_eq_true rfl⟩ (fun w hw => ?_)
    obtain ⟨y1, hy1⟩ : ∃ z, z = tw_rb1 (tA x 1 78) x := ⟨_, rfl⟩
    have hw : tW (xG X) G wB y1 w := hw.to hy1
    have ry1 : tRX y1 := by rw [hy1]; exact hx.must.go
    refine v_aload_n hX dX8_readBatch_27 rfl ?_
    refine tv_callR hX rfl dX8_readBatch_28 q2183 cf_X8_productHere hw (mX8_productHere hw ry1.2.2) rfl ⟨rfl, rfl⟩ ⟨Nat.le_of_ble_eq_true rfl, Nat.le_of_ble_eq_true rfl⟩ rfl (Nat.le_of_ble_eq_true rfl) ⟨Nat.le_of_ble_eq_true rfl, Nat.le_of_ble_eq_true rfl⟩ ?_
    refine v_istore_n (lv' := [_, _, _, _, _, _]) hX dX8_readBatch_31 (Nat.le_of_ble_eq_true rfl) rfl rfl ?_
    refine v_aload_n hX dX8_readBatch_32 rfl ?_
    refine v_join 43 (.int (bi (¬ tw_ph y1 = -1))) ?_ (fun hj => ?_)
    · refine tv_call0 hX rfl dX8_readBatch_43 q2175 cf_X8_must hw (mX8_must hw _) rfl ⟨rfl, rfl⟩ ⟨Nat.le_of_ble_eq_true rfl, Nat.le_of_ble_eq_true rfl⟩ rfl (Nat.le_of_ble_eq_true rfl) ⟨Nat.le_of_ble_eq_true rfl, Nat.le_of_ble_eq_true rfl⟩ (fun w hw => ?_)
      refine v_aload_n hX dX8_readBatch_46 rfl ?_
      refine tv_call0 hX rfl dX8_readBatch_47 q2179 cf_X8_goesOn hw (mX8_goesOn hw ry1.must.1) rfl ⟨rfl, rfl⟩ ⟨Nat.le_of_ble_eq_true rfl, Nat.le_of_ble_eq_true rfl⟩ rfl (Nat.le_of_ble_eq_true rfl) ⟨Nat.le_of_ble_eq_true rfl, Nat.le_of_ble_eq_true rfl⟩ (fun w hw => ?_)
      obtain ⟨y2, hy2⟩ : ∃ z, z = tw_rb2 (tw_ph y1) y1 := ⟨_, rfl⟩
      have hw : tW (xG X) G wB y2 w := hw.to hy2
      have ry2 : tRX y2 := by rw [hy2]; exact ry1.must.go
      refine v_aload_n hX dX8_readBatch_50 rfl ?_
      refine v_iconst hX dX8_readBatch_51 li0 ?_
      refine v_sipush hX dX8_readBatch_52 ls999 ?_
      refine tv_callV hX rfl dX8_readBatch_55 q2187 cf_X8_readValue hw (mX8_readValue hw ry2.1 _ _) rfl ⟨rfl, rfl⟩ ⟨Nat.le_of_ble_eq_true rfl, Nat.le_of_ble_eq_true rfl⟩ rfl (Nat.le_of_ble_eq_true rfl) ⟨Nat.le_of_ble_eq_true rfl, Nat.le_of_ble_eq_true rfl⟩ (fun w hw => ?_)
      obtain ⟨y3, hy3⟩ : ∃ z, z = (tw_val 0 999 y2).2 := ⟨_, rfl⟩
      have hw : tW (xG X) G wB y3 w := hw.to hy3
      have ry3 : tRX y3 := by rw [hy3]; exact ry2.val
      refine v_istore_n (lv' := [_, _, _, _, _, _]) hX dX8_readBatch_58 (Nat.le_of_ble_eq_true rfl) rfl rfl ?_
      refine v_aload_n hX dX8_readBatch_59 rfl ?_
      refine v_iconst hX dX8_readBatch_60 li0 ?_
      refine v_aload_n hX dX8_readBatch_61 rfl ?_
      refine tv_getI hX dX8_readBatch_62 hw 28 (by decide) rfl q1937 ?_
      refine v_iconst hX dX8_readBatch_65 li1 ?_
      refine v_isub hX dX8_readBatch_66 ?_
      refine tv_callV hX rfl dX8_readBatch_67 q2187 cf_X8_readValue hw (mX8_readValue hw ry3.1 _ _) rfl ⟨rfl, rfl⟩ ⟨Nat.le_of_ble_eq_true rfl, Nat.le_of_ble_eq_true rfl⟩ rfl (Nat.le_of_ble_eq_true rfl) ⟨Nat.le_of_ble_eq_true rfl, Nat.le_of_ble_eq_true rfl⟩ (fun w hw => ?_)
      refine v_istore (lv' := [_, _, _, _, _, _]) hX dX8_readBatch_70 (Nat.le_of_ble_eq_true rfl) rfl rfl ?_
      obtain ⟨y4, hy4⟩ : ∃ z, z = (tw_val 0 (y3.1 28 - 1) y3).2 := ⟨_, rfl⟩
      have hw : tW (xG X) G wB y4 w := hw.to hy4
      have ry4 : tRX y4 := by rw [hy4]; exact ry3.val
      have hb : y4.1 26 = -1 → vp_in (tA x 1 78) 20 := fun q => nb_lt hx.2.2 (rb_w hx (by rw [hy4, hy3, hy2, hy1] at q; exact q))
      refine v_aload_n hX dX8_readBatch_72 rfl ?_
      refine tv_callR hX rfl dX8_readBatch_73 q2152 cf_X8_isWell hw (mX8_isWell hw) rfl ⟨rfl, rfl⟩ ⟨Nat.le_of_ble_eq_true rfl, Nat.le_of_ble_eq_true rfl⟩ rfl (Nat.le_of_ble_eq_true rfl) ⟨Nat.le_of_ble_eq_true rfl, Nat.le_of_ble_eq_true rfl⟩ ?_
      refine v_ifb_ne (tgt := 80) hX dX8_readBatch_76 rfl (fun c_76 => ?_) (fun c_76 => ?_)
      · refine v_bipush hX dX8_readBatch_80 lb79 ?_
        refine v_iconst hX dX8_readBatch_82 li3 ?_
        refine v_iload_n hX dX8_readBatch_83 rfl ?_
        refine v_imul hX dX8_readBatch_84 ?_
        refine v_iadd hX dX8_readBatch_85 ?_
        refine v_istore (lv' := [_, _, _, _, _, _]) hX dX8_readBatch_86 (Nat.le_of_ble_eq_true rfl) rfl rfl ?_
        refine v_aload_n hX dX8_readBatch_88 rfl ?_
        refine tv_getA hX dX8_readBatch_89 hw 1 (by decide) rfl q1910 ?_
        refine v_iload hX dX8_readBatch_92 rfl ?_
        refine v_iconst hX dX8_readBatch_94 li0 ?_
        refine v_iadd hX dX8_readBatch_95 ?_
        refine v_iload_n hX dX8_readBatch_96 rfl ?_
        refine tv_iast hX dX8_readBatch_97 hw (by decide) rfl rfl (b79 (hb c_76) (vin (by decide))) (fun w hw => ?_)
        refine v_aload_n hX dX8_readBatch_98 rfl ?_
        refine tv_getA hX dX8_readBatch_99 hw 1 (by decide) rfl q1910 ?_
        refine v_iload hX dX8_readBatch_102 rfl ?_
        refine v_iconst hX dX8_readBatch_104 li1 ?_
        refine v_iadd hX dX8_readBatch_105 ?_
        refine v_iload_n hX dX8_readBatch_106 rfl ?_
        refine tv_iast hX dX8_readBatch_107 hw (by decide) rfl rfl (b79 (hb c_76) (vin (by decide))) (fun w hw => ?_)
        refine v_aload_n hX dX8_readBatch_108 rfl ?_
        refine tv_getA hX dX8_readBatch_109 hw 1 (by decide) rfl q1910 ?_
        refine v_iload hX dX8_readBatch_112 rfl ?_
        refine v_iconst hX dX8_readBatch_114 li2 ?_
        refine v_iadd hX dX8_readBatch_115 ?_
        refine v_iload hX dX8_readBatch_116 rfl ?_
        refine tv_iast hX dX8_readBatch_118 hw (by decide) rfl rfl (b79 (hb c_76) (vin (by decide))) (fun w hw => ?_)
        refine v_aload_n hX dX8_readBatch_119 rfl ?_
        refine tv_getA hX dX8_readBatch_120 hw 1 (by decide) rfl q1910 ?_
        refine v_bipush hX dX8_readBatch_123 lb78 ?_
        refine v_iload_n hX dX8_readBatch_125 rfl ?_
        refine v_iconst hX dX8_readBatch_126 li1 ?_
        refine v_iadd hX dX8_readBatch_127 ?_
        refine tv_iast hX dX8_readBatch_128 hw (by decide) rfl rfl (vin (by decide)) (fun w hw => ?_)
        exact v_vret hX dX8_readBatch_129 hR (Nat.le_of_ble_eq_true rfl) (Nat.le_of_ble_eq_true rfl) (⟨rfl, hw.to (by rw [tw_rb, ← hy1, tw_rb6, ← hy2, tw_rb5, ← hy3, tw_rb4, ← hy4, tw_rb3, if_pos c_76])⟩)
      · exact v_vret hX dX8_readBatch_79 hR (Nat.le_of_ble_eq_true rfl) (Nat.le_of_ble_eq_true rfl) (⟨rfl, hw.to (by rw [tw_rb, ← hy1, tw_rb6, ← hy2, tw_rb5, ← hy3, tw_rb4, ← hy4, tw_rb3, if_neg c_76])⟩)
    · refine v_iload_n hX dX8_readBatch_33 rfl ?_
      refine v_iconst hX dX8_readBatch_34 lim1 ?_
      refine v_icmp_eq (tgt := 42) hX dX8_readBatch_35 rfl (fun c_35 => ?_) (fun c_35 => ?_)
      · refine v_iconst hX dX8_readBatch_42 li0 ?_
        exact V.at rfl rfl (by simp [bi, c_35]) hj
      · refine v_iconst hX dX8_readBatch_38 li1 ?_
        refine v_goto (tgt := 43) hX dX8_readBatch_39 rfl ?_
        exact V.at rfl rfl (by simp [bi, c_35]) hj
  · refine v_iload_n hX dX8_readBatch_9 rfl ?_
    refine v_bipush hX dX8_readBatch_10 lb20 ?_
    refine v_icmp_ge (tgt := 19) hX dX8_readBatch_12 rfl (fun c_12 => ?_) (fun c_12 => ?_)
    · refine v_iconst hX dX8_readBatch_19 li0 ?_
      exact V.at rfl rfl (by simp [bi, c_12]) hj
    · refine v_iconst hX dX8_readBatch_15 li1 ?_
      refine v_goto (tgt := 20) hX dX8_readBatch_16 rfl ?_
      exact V.at rfl rfl (by simp [bi, c_12]) hj
def tw_rs2 (i v : Int32) (y : TS) : TS := if y.1 26 = -1 then tU y 1 (70 + i) v else y
def tw_rs1 (i : Int32) (y : TS) : TS := tw_rs2 i (tw_val (tw_least i) (tw_greatest i) y).1 (tw_val (tw_least i) (tw_greatest i) y).2
def tw_rs (i : Int32) (x : TS) : TS := tw_rs1 i (tw_tok x)
def tw_ro2 (p : Int32) (y : TS) : TS := if y.1 26 = -1 then tw_tok (tU y 1 77 p) else y
def tw_ro1 (y : TS) : TS := tw_ro2 (tw_polH y) (tw_must (bi (¬ tw_polH y = -1)) y)
def tw_ro (x : TS) : TS := tw_ro1 (tw_tok x)
theorem i70 {i : Int32} (h : vp_in i 7) : vp_in (70 + i) 840 := by
  obtain ⟨j, hj, rfl⟩ := vp_in_of h (by decide)
  rw [show (70 : Int32) = nI 70 from rfl, nI_add]
  exact vp_in_nI (by omega) (by decide)
theorem upd_n {f : Nat → Int32} {k j : Nat} {v : Int32} (h : j ≠ k) : upd f k v j = f j := if_neg h
theorem tR.row {x : TS} {i : Nat} {v : Int32} (h : tR x) (hi : i ≠ 78) (hi2 : i ≤ 100000) : tR (tU x 1 (nI i) v) := by
  refine h.of rfl rfl ?_
  show upd (x.2.2.1 1) (nI i).toNatClampNeg v 78 = _
  rw [nI_clamp (by omega), upd_n (Ne.symm hi)]
theorem tRX.row {x : TS} {i : Nat} {v : Int32} (h : tRX x) (hi : i ≠ 78) (hi2 : i ≤ 100000) : tRX (tU x 1 (nI i) v) := ⟨h.1.u, h.2.1.u, h.2.2.row hi hi2⟩
theorem setH_ok (x : TS) : tw_setH x = -1 ∨ vp_in (tw_setH x) 7 := by
  unfold tw_setH
  repeat' split
  all_goals first | exact Or.inl rfl | exact Or.inr (vin (by decide))
theorem cf_X8_readSetting : CF RX8 yX8_readSetting cX8_readSetting 3 none 1 := ⟨q2217, qs63, q150, q2218, by decide +kernel⟩
theorem mX8_readSetting {Γ : Gm} {l : Launch} {G : Nat → Nat} {wB : Wd} {x : TS} {w : Wd} (hw : tW Γ G wB x w) (hx : tRX x) (i : Int32) (hi : vp_in i 7) : M0 Γ l yX8_readSetting (ws_ yX8_readSetting cX8_readSetting 3 none) (rl 5 0 0) 0 0 [.ref (G 61), .int i] w (fun r9 w9 => r9 = none ∧ tW Γ G wB (tw_rs i x) w9) := by
  refine M0.of (lv := [some (.ref (G 61)), some (.int i), none]) (by decide) (Nat.le_of_ble_eq_true rfl) 1 rfl rfl ?_
  intro X hX hR hl hG hnm
  subst hl; subst hG
  refine v_aload_n hX dX8_readSetting_0 rfl ?_
  refine tv_call0 hX rfl dX8_readSetting_1 q2122 cf_X8_readToken hw (mX8_readToken hw hx.1) rfl ⟨rfl, rfl⟩ ⟨Nat.le_of_ble_eq_true rfl, Nat.le_of_ble_eq_true rfl⟩ rfl (Nat.le_of_ble_eq_true rfl) ⟨Nat.le_of_ble_eq_true rfl, Nat.le_of_ble_eq_true rfl⟩ (fun w hw => ?_)
  obtain ⟨y1, hy1⟩ : ∃ z, z = tw_tok x := ⟨_, rfl⟩
  have hw : tW (xG X) G wB y1 w := hw.to hy1
  have ry1 : tRX y1 := by rw [hy1]; exact hx.tok
  refine v_aload_n hX dX8_readSetting_4 rfl ?_
  refine v_iload_n hX dX8_readSetting_5 rfl ?_
  refine v_callSr hX rfl dX8_readSetting_6 q2219 cs_X8_least (mX8_least _) rfl ⟨rfl, rfl⟩ ⟨Nat.le_of_ble_eq_true rfl, Nat.le_of_ble_eq_true rfl⟩ rfl (Nat.le_of_ble_eq_true rfl) ⟨Nat.le_of_ble_eq_true rfl, Nat.le_of_ble_eq_true rfl⟩ ?_
  refine v_iload_n hX dX8_readSetting_9 rfl ?_
  refine v_callSr hX rfl dX8_readSetting_10 q2222 cs_X8_greatest (mX8_greatest _) rfl ⟨rfl, rfl⟩ ⟨Nat.le_of_ble_eq_true rfl, Nat.le_of_ble_eq_true rfl⟩ rfl (Nat.le_of_ble_eq_true rfl) ⟨Nat.le_of_ble_eq_true rfl, Nat.le_of_ble_eq_true rfl⟩ ?_
  refine tv_callV hX rfl dX8_readSetting_13 q2187 cf_X8_readValue hw (mX8_readValue hw ry1.1 _ _) rfl ⟨rfl, rfl⟩ ⟨Nat.le_of_ble_eq_true rfl, Nat.le_of_ble_eq_true rfl⟩ rfl (Nat.le_of_ble_eq_true rfl) ⟨Nat.le_of_ble_eq_true rfl, Nat.le_of_ble_eq_true rfl⟩ (fun w hw => ?_)
  refine v_istore_n (lv' := [_, _, _]) hX dX8_readSetting_16 (Nat.le_of_ble_eq_true rfl) rfl rfl ?_
  obtain ⟨y2, hy2⟩ : ∃ z, z = (tw_val (tw_least i) (tw_greatest i) y1).2 := ⟨_, rfl⟩
  have hw : tW (xG X) G wB y2 w := hw.to hy2
  refine v_aload_n hX dX8_readSetting_17 rfl ?_
  refine tv_callR hX rfl dX8_readSetting_18 q2152 cf_X8_isWell hw (mX8_isWell hw) rfl ⟨rfl, rfl⟩ ⟨Nat.le_of_ble_eq_true rfl, Nat.le_of_ble_eq_true rfl⟩ rfl (Nat.le_of_ble_eq_true rfl) ⟨Nat.le_of_ble_eq_true rfl, Nat.le_of_ble_eq_true rfl⟩ ?_
  refine v_ifb_eq (tgt := 34) hX dX8_readSetting_21 rfl (fun c_21 => ?_) (fun c_21 => ?_)
  · exact v_vret hX dX8_readSetting_34 hR (Nat.le_of_ble_eq_true rfl) (Nat.le_of_ble_eq_true rfl) (⟨rfl, hw.to (by rw [tw_rs, ← hy1, tw_rs1, ← hy2, tw_rs2, if_neg c_21])⟩)
  · refine v_aload_n hX dX8_readSetting_24 rfl ?_
    refine tv_getA hX dX8_readSetting_25 hw 1 (by decide) rfl q1910 ?_
    refine v_bipush hX dX8_readSetting_28 lb70 ?_
    refine v_iload_n hX dX8_readSetting_30 rfl ?_
    refine v_iadd hX dX8_readSetting_31 ?_
    refine v_iload_n hX dX8_readSetting_32 rfl ?_
    refine tv_iast hX dX8_readSetting_33 hw (by decide) rfl rfl (i70 hi) (fun w hw => ?_)
    exact v_vret hX dX8_readSetting_34 hR (Nat.le_of_ble_eq_true rfl) (Nat.le_of_ble_eq_true rfl) (⟨rfl, hw.to (by rw [tw_rs, ← hy1, tw_rs1, ← hy2, tw_rs2, if_pos c_21])⟩)
theorem cf_X8_readPolicy : CF RX8 yX8_readPolicy cX8_readPolicy 2 none 0 := ⟨q2205, qs60, q150, q2206, by decide +kernel⟩
theorem mX8_readPolicy {Γ : Gm} {l : Launch} {G : Nat → Nat} {wB : Wd} {x : TS} {w : Wd} (hw : tW Γ G wB x w) (hx : tRX x) : M0 Γ l yX8_readPolicy (ws_ yX8_readPolicy cX8_readPolicy 2 none) (rl 4 0 0) 0 0 [.ref (G 61)] w (fun r9 w9 => r9 = none ∧ tW Γ G wB (tw_ro x) w9) := by
  refine M0.of (lv := [some (.ref (G 61)), none]) (by decide) (Nat.le_of_ble_eq_true rfl) 1 rfl rfl ?_
  intro X hX hR hl hG hnm
  subst hl; subst hG
  refine v_aload_n hX dX8_readPolicy_0 rfl ?_
  refine tv_call0 hX rfl dX8_readPolicy_1 q2122 cf_X8_readToken hw (mX8_readToken hw hx.1) rfl ⟨rfl, rfl⟩ ⟨Nat.le_of_ble_eq_true rfl, Nat.le_of_ble_eq_true rfl⟩ rfl (Nat.le_of_ble_eq_true rfl) ⟨Nat.le_of_ble_eq_true rfl, Nat.le_of_ble_eq_true rfl⟩ (fun w hw => ?_)
  obtain ⟨y1, hy1⟩ : ∃ z, z = tw_tok x := ⟨_, rfl⟩
  have hw : tW (xG X) G wB y1 w := hw.to hy1
  have ry1 : tRX y1 := by rw [hy1]; exact hx.tok
  refine v_aload_n hX dX8_readPolicy_4 rfl ?_
  refine tv_callR hX rfl dX8_readPolicy_5 q2207 cf_X8_policyHere hw (mX8_policyHere hw) rfl ⟨rfl, rfl⟩ ⟨Nat.le_of_ble_eq_true rfl, Nat.le_of_ble_eq_true rfl⟩ rfl (Nat.le_of_ble_eq_true rfl) ⟨Nat.le_of_ble_eq_true rfl, Nat.le_of_ble_eq_true rfl⟩ ?_
  refine v_istore_n (lv' := [_, _]) hX dX8_readPolicy_8 (Nat.le_of_ble_eq_true rfl) rfl rfl ?_
  refine v_aload_n hX dX8_readPolicy_9 rfl ?_
  refine v_join 20 (.int (bi (¬ tw_polH y1 = -1))) ?_ (fun hj => ?_)
  · refine tv_call0 hX rfl dX8_readPolicy_20 q2175 cf_X8_must hw (mX8_must hw _) rfl ⟨rfl, rfl⟩ ⟨Nat.le_of_ble_eq_true rfl, Nat.le_of_ble_eq_true rfl⟩ rfl (Nat.le_of_ble_eq_true rfl) ⟨Nat.le_of_ble_eq_true rfl, Nat.le_of_ble_eq_true rfl⟩ (fun w hw => ?_)
    obtain ⟨y2, hy2⟩ : ∃ z, z = tw_must (bi (¬ tw_polH y1 = -1)) y1 := ⟨_, rfl⟩
    have hw : tW (xG X) G wB y2 w := hw.to hy2
    have ry2 : tRX y2 := by rw [hy2]; exact ry1.must
    refine v_aload_n hX dX8_readPolicy_23 rfl ?_
    refine tv_callR hX rfl dX8_readPolicy_24 q2152 cf_X8_isWell hw (mX8_isWell hw) rfl ⟨rfl, rfl⟩ ⟨Nat.le_of_ble_eq_true rfl, Nat.le_of_ble_eq_true rfl⟩ rfl (Nat.le_of_ble_eq_true rfl) ⟨Nat.le_of_ble_eq_true rfl, Nat.le_of_ble_eq_true rfl⟩ ?_
    refine v_ifb_ne (tgt := 31) hX dX8_readPolicy_27 rfl (fun c_27 => ?_) (fun c_27 => ?_)
    · refine v_aload_n hX dX8_readPolicy_31 rfl ?_
      refine tv_getA hX dX8_readPolicy_32 hw 1 (by decide) rfl q1910 ?_
      refine v_bipush hX dX8_readPolicy_35 lb77 ?_
      refine v_iload_n hX dX8_readPolicy_37 rfl ?_
      refine tv_iast hX dX8_readPolicy_38 hw (by decide) rfl rfl (vin (by decide)) (fun w hw => ?_)
      refine v_aload_n hX dX8_readPolicy_39 rfl ?_
      refine tv_call0 hX rfl dX8_readPolicy_40 q2122 cf_X8_readToken hw (mX8_readToken hw ry2.1.u) rfl ⟨rfl, rfl⟩ ⟨Nat.le_of_ble_eq_true rfl, Nat.le_of_ble_eq_true rfl⟩ rfl (Nat.le_of_ble_eq_true rfl) ⟨Nat.le_of_ble_eq_true rfl, Nat.le_of_ble_eq_true rfl⟩ (fun w hw => ?_)
      exact v_vret hX dX8_readPolicy_43 hR (Nat.le_of_ble_eq_true rfl) (Nat.le_of_ble_eq_true rfl) (⟨rfl, hw.to (by rw [tw_ro, ← hy1, tw_ro1, ← hy2, tw_ro2, if_pos c_27])⟩)
    · exact v_vret hX dX8_readPolicy_30 hR (Nat.le_of_ble_eq_true rfl) (Nat.le_of_ble_eq_true rfl) (⟨rfl, hw.to (by rw [tw_ro, ← hy1, tw_ro1, ← hy2, tw_ro2, if_neg c_27])⟩)
  · refine v_iload_n hX dX8_readPolicy_10 rfl ?_
    refine v_iconst hX dX8_readPolicy_11 lim1 ?_
    refine v_icmp_eq (tgt := 19) hX dX8_readPolicy_12 rfl (fun c_12 => ?_) (fun c_12 => ?_)
    · refine v_iconst hX dX8_readPolicy_19 li0 ?_
      exact V.at rfl rfl (by simp [bi, c_12]) hj
    · refine v_iconst hX dX8_readPolicy_15 li1 ?_
      refine v_goto (tgt := 20) hX dX8_readPolicy_16 rfl ?_
      exact V.at rfl rfl (by simp [bi, c_12]) hj
end
