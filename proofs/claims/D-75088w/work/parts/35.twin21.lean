/-! the twin: formatted text, names -/
noncomputable section
set_option maxRecDepth 100000
theorem lb45 : (Int8.ofInt (45)).toInt32 = 45 := by decide +kernel
theorem lb64 : (Int8.ofInt (64)).toInt32 = 64 := by decide +kernel
theorem lb96 : (Int8.ofInt (96)).toInt32 = 96 := by decide +kernel
theorem lim5 : Int32.ofInt (-5) = -5 := by decide +kernel
/-- how many leading groups of five bits are 0 (of the first nine) -/
def tw_lz (v : Int64) : Nat := run (fun i => v >>> ((nI (45 - 5 * i)).toInt64 &&& 63) = 0) 9 0
def tw_nc (v : Int64) (i : Nat) : Int32 := ((96 + ((v >>> ((nI (45 - 5 * i)).toInt64 &&& 63)) &&& 31).toInt32).toUInt32 % 65536).toInt32
def tw_nm (v : Int64) (x : TS) : TS := it (fun i y => tw_say (tw_nc v (tw_lz v + i)) y) (10 - tw_lz v) x
theorem run_f {p : Nat → Prop} [DecidablePred p] : ∀ (f s : Nat), run p f s ≤ f
  | 0, s => by rw [run]; exact Nat.le_refl _
  | f + 1, s => by
    rw [run]
    split
    · have := run_f (p := p) f (s + 1); omega
    · omega
theorem run_stop {p : Nat → Prop} [DecidablePred p] : ∀ (f s : Nat), run p f s < f → ¬ p (s + run p f s)
  | 0, s, h => by rw [run] at h; omega
  | f + 1, s, h => by
    rw [run] at h ⊢
    split
    · rename_i c
      rw [if_pos c] at h
      have := run_stop (p := p) f (s + 1) (by omega)
      rw [show s + (run p f (s + 1) + 1) = s + 1 + run p f (s + 1) by omega]
      exact this
    · rename_i c; exact c
theorem lz_le {v : Int64} : tw_lz v ≤ 9 := run_f 9 0
theorem lz_in {v : Int64} {i : Nat} (h : i < tw_lz v) : v >>> ((nI (45 - 5 * i)).toInt64 &&& 63) = 0 := by
  have := run_in 9 0 i h
  rw [Nat.zero_add] at this
  exact this
theorem lz_out {v : Int64} (h : tw_lz v < 9) : ¬ v >>> ((nI (45 - 5 * tw_lz v)).toInt64 &&& 63) = 0 := by
  have := run_stop 9 0 h
  rw [Nat.zero_add] at this
  exact this
theorem m5 {k : Nat} (h : 5 ≤ k) : nI k + (-5) = nI (k - 5) := by
  obtain ⟨j, rfl⟩ : ∃ j, k = j + 5 := ⟨k - 5, by omega⟩
  rw [← nI_add, Int32.add_assoc, show nI 5 + (-5) = 0 from by decide, Int32.add_zero]
  congr 1
/-- the place of the second loop: 45, 40 .. 0, -5 -/
def tw_sf (i : Nat) : Int32 := nI (50 - 5 * i) + (-5)
theorem sf_e {i : Nat} (h : i ≤ 9) : tw_sf i = nI (45 - 5 * i) := by unfold tw_sf; rw [m5 (by omega)]; congr 1; omega
theorem sf_s {i : Nat} (h : i ≤ 9) : tw_sf i + (-5) = tw_sf (i + 1) := by rw [sf_e h]; unfold tw_sf; congr 2; omega
theorem cf_X8_sayName : CF RX8 yX8_sayName cX8_sayName 4 none 1 := ⟨q2622, qs117, q150, q2623, by decide +kernel⟩
theorem mX8_sayName {Γ : Gm} {l : Launch} {G : Nat → Nat} {wB : Wd} {x : TS} {w : Wd} (hw : tW Γ G wB x w) {L : Nat} (h : x.1 19 = nI L) (hL : L + 10 ≤ 60) (v : Int64) : M0 Γ l yX8_sayName (ws_ yX8_sayName cX8_sayName 4 none) (rl 1 0 0) 0 0 [.ref (G 61), .long v] w (fun r9 w9 => r9 = none ∧ tW Γ G wB (tw_nm v x) w9) := by
  refine M0.of (lv := [some (.ref (G 61)), some (.long v), none, none]) (by decide) (Nat.le_of_ble_eq_true rfl) 1 rfl rfl ?_
  intro X hX hR hl hG hnm
  subst hl; subst hG
  have h9 := lz_le (v := v)
  refine v_bipush hX dX8_sayName_0 lb45 ?_
  refine v_istore_n (lv' := [_, _, _, _]) hX dX8_sayName_2 (Nat.le_of_ble_eq_true rfl) rfl rfl ?_
  refine V.no (lv' := [_, _, _, _]) 2 rfl ?_
  refine loop_up (tw_lz v) (fun i => V X w 0 0 3 [some (.ref (G 61)), some (.long v), none, some (.int (nI (45 - 5 * (i))))] []) ?_ ?_ 0 (Nat.zero_le _)
  · skip
    refine v_iload_n hX dX8_sayName_3 rfl ?_
    refine v_if_le (tgt := 21) hX dX8_sayName_4 rfl (fun c_4 => ?_) (fun c_4 => ?_)
    · rw [show (nI (45 - 5 * tw_lz v) : Int32) = tw_sf (tw_lz v + 0) from (sf_e h9).symm]
      refine V.no (lv' := [_, _, _, _]) 2 rfl ?_
      refine loop_up (10 - tw_lz v) (fun i => ∀ w, tW (xG X) G wB ((it ((fun i y => tw_say (tw_nc v (tw_lz v + i)) y)) (i) x)) w → V X w 0 0 21 [some (.ref (G 61)), some (.long v), none, some (.int (tw_sf (tw_lz v + (i))))] []) ?_ ?_ 0 (Nat.zero_le _) w hw
      · intro w hw
        refine v_iload_n hX dX8_sayName_21 rfl ?_
        refine v_if_lt_t (tgt := 47) hX dX8_sayName_22 rfl (by rw [show tw_lz v + (10 - tw_lz v) = 10 by omega]; decide) ?_
        exact v_vret hX dX8_sayName_47 hR (Nat.le_of_ble_eq_true rfl) (Nat.le_of_ble_eq_true rfl) (⟨rfl, hw⟩)
      · intro i hi ih w hw
        have ih : ∀ w, tW (xG X) G wB ((((fun i y => tw_say (tw_nc v (tw_lz v + i)) y)) i (it ((fun i y => tw_say (tw_nc v (tw_lz v + i)) y)) (i) x))) w → V X w 0 0 21 [some (.ref (G 61)), some (.long v), none, some (.int (tw_sf (tw_lz v + (i + 1))))] [] := ih
        have h19 := say_it (F := fun i => tw_nc v (tw_lz v + i)) h i
        generalize (it ((fun i y => tw_say (tw_nc v (tw_lz v + i)) y)) (i) x) = y at hw ih h19
        refine v_iload_n hX dX8_sayName_21 rfl ?_
        refine v_if_lt_f (tgt := 47) hX dX8_sayName_22 rfl (by rw [sf_e (by omega)]; exact nI_pos (by omega)) ?_
        refine v_aload_n hX dX8_sayName_25 rfl ?_
        refine v_bipush hX dX8_sayName_26 lb96 ?_
        refine v_lload_n hX dX8_sayName_28 rfl ?_
        refine v_iload_n hX dX8_sayName_29 rfl ?_
        refine v_lshr hX dX8_sayName_30 ?_
        refine v_ldc2 hX dX8_sayName_31 q2624 ?_
        refine v_land hX dX8_sayName_34 ?_
        refine v_l2i hX dX8_sayName_35 ?_
        refine v_iadd hX dX8_sayName_36 ?_
        refine v_i2c hX dX8_sayName_37 ?_
        refine tv_call0 hX rfl dX8_sayName_38 q2625 cf_X8_say hw (mX8_say hw h19 (by omega) _) rfl ⟨rfl, rfl⟩ ⟨Nat.le_of_ble_eq_true rfl, Nat.le_of_ble_eq_true rfl⟩ rfl (Nat.le_of_ble_eq_true rfl) ⟨Nat.le_of_ble_eq_true rfl, Nat.le_of_ble_eq_true rfl⟩ (fun w hw => ?_)
        refine v_iinc (lv' := [_, _, _, _]) hX dX8_sayName_41 rfl lim5 rfl rfl ?_
        refine v_goto (tgt := 21) hX dX8_sayName_44 rfl ?_
        refine V.no (lv' := [_, _, _, _]) 2 rfl ?_
        exact V.at rfl (by rw [sf_s (by omega)]; rfl) rfl (ih w (hw.to (by show tw_say (tw_nc v (tw_lz v + i)) y = _; rw [tw_nc, sf_e (by omega)])))
    · refine v_lload_n hX dX8_sayName_7 rfl ?_
      refine v_iload_n hX dX8_sayName_8 rfl ?_
      refine v_lshr hX dX8_sayName_9 ?_
      refine v_lconst hX dX8_sayName_10 rfl ?_
      refine v_lcmp hX dX8_sayName_11 ?_
      refine v_ifl_ne (tgt := 21) hX dX8_sayName_12 rfl (fun c_12 => ?_) (fun c_12 => ?_)
      · rw [show (nI (45 - 5 * tw_lz v) : Int32) = tw_sf (tw_lz v + 0) from (sf_e h9).symm]
        refine V.no (lv' := [_, _, _, _]) 2 rfl ?_
        refine loop_up (10 - tw_lz v) (fun i => ∀ w, tW (xG X) G wB ((it ((fun i y => tw_say (tw_nc v (tw_lz v + i)) y)) (i) x)) w → V X w 0 0 21 [some (.ref (G 61)), some (.long v), none, some (.int (tw_sf (tw_lz v + (i))))] []) ?_ ?_ 0 (Nat.zero_le _) w hw
        · intro w hw
          refine v_iload_n hX dX8_sayName_21 rfl ?_
          refine v_if_lt_t (tgt := 47) hX dX8_sayName_22 rfl (by rw [show tw_lz v + (10 - tw_lz v) = 10 by omega]; decide) ?_
          exact v_vret hX dX8_sayName_47 hR (Nat.le_of_ble_eq_true rfl) (Nat.le_of_ble_eq_true rfl) (⟨rfl, hw⟩)
        · intro i hi ih w hw
          have ih : ∀ w, tW (xG X) G wB ((((fun i y => tw_say (tw_nc v (tw_lz v + i)) y)) i (it ((fun i y => tw_say (tw_nc v (tw_lz v + i)) y)) (i) x))) w → V X w 0 0 21 [some (.ref (G 61)), some (.long v), none, some (.int (tw_sf (tw_lz v + (i + 1))))] [] := ih
          have h19 := say_it (F := fun i => tw_nc v (tw_lz v + i)) h i
          generalize (it ((fun i y => tw_say (tw_nc v (tw_lz v + i)) y)) (i) x) = y at hw ih h19
          refine v_iload_n hX dX8_sayName_21 rfl ?_
          refine v_if_lt_f (tgt := 47) hX dX8_sayName_22 rfl (by rw [sf_e (by omega)]; exact nI_pos (by omega)) ?_
          refine v_aload_n hX dX8_sayName_25 rfl ?_
          refine v_bipush hX dX8_sayName_26 lb96 ?_
          refine v_lload_n hX dX8_sayName_28 rfl ?_
          refine v_iload_n hX dX8_sayName_29 rfl ?_
          refine v_lshr hX dX8_sayName_30 ?_
          refine v_ldc2 hX dX8_sayName_31 q2624 ?_
          refine v_land hX dX8_sayName_34 ?_
          refine v_l2i hX dX8_sayName_35 ?_
          refine v_iadd hX dX8_sayName_36 ?_
          refine v_i2c hX dX8_sayName_37 ?_
          refine tv_call0 hX rfl dX8_sayName_38 q2625 cf_X8_say hw (mX8_say hw h19 (by omega) _) rfl ⟨rfl, rfl⟩ ⟨Nat.le_of_ble_eq_true rfl, Nat.le_of_ble_eq_true rfl⟩ rfl (Nat.le_of_ble_eq_true rfl) ⟨Nat.le_of_ble_eq_true rfl, Nat.le_of_ble_eq_true rfl⟩ (fun w hw => ?_)
          refine v_iinc (lv' := [_, _, _, _]) hX dX8_sayName_41 rfl lim5 rfl rfl ?_
          refine v_goto (tgt := 21) hX dX8_sayName_44 rfl ?_
          refine V.no (lv' := [_, _, _, _]) 2 rfl ?_
          exact V.at rfl (by rw [sf_s (by omega)]; rfl) rfl (ih w (hw.to (by show tw_say (tw_nc v (tw_lz v + i)) y = _; rw [tw_nc, sf_e (by omega)])))
      · refine v_iinc (lv' := [_, _, _, _]) hX dX8_sayName_15 rfl lim5 rfl rfl ?_
        refine v_goto (tgt := 3) hX dX8_sayName_18 rfl ?_
        exact absurd c_12 (by rcases Nat.lt_or_ge (tw_lz v) 9 with q | q; exact lz_out q; exact absurd (show nI (45 - 5 * tw_lz v) ≤ 0 from by rw [show tw_lz v = 9 by omega]; decide) c_4)
  · intro i hi ih
    have ih : V X w 0 0 3 [some (.ref (G 61)), some (.long v), none, some (.int (nI (45 - 5 * (i + 1))))] [] := ih
    refine v_iload_n hX dX8_sayName_3 rfl ?_
    refine v_if_le_f (tgt := 21) hX dX8_sayName_4 rfl (nI_nle (by omega) (by omega)) ?_
    refine v_lload_n hX dX8_sayName_7 rfl ?_
    refine v_iload_n hX dX8_sayName_8 rfl ?_
    refine v_lshr hX dX8_sayName_9 ?_
    refine v_lconst hX dX8_sayName_10 rfl ?_
    refine v_lcmp hX dX8_sayName_11 ?_
    refine v_ifl_ne (tgt := 21) hX dX8_sayName_12 rfl (fun q => absurd (lz_in hi) q) (fun _ => ?_)
    refine v_iinc (lv' := [_, _, _, _]) hX dX8_sayName_15 rfl lim5 rfl rfl ?_
    refine v_goto (tgt := 3) hX dX8_sayName_18 rfl ?_
    refine V.no (lv' := [_, _, _, _]) 2 rfl ?_
    exact V.at rfl (by rw [m5 (by omega), show 45 - 5 * i - 5 = 45 - 5 * (i + 1) by omega]) rfl ih
def tw_sp (c : Int32) (a b : Nat) (x : TS) : TS := tw_sn b (tw_say 64 (tw_sn a (tw_say c (tw_say 32 x))))
theorem sn_19 {x : TS} {L n : Nat} (h : x.1 19 = nI L) : (tw_sn n x).1 19 = nI (L + dg n) := say_it (F := tw_dc n) h (dg n)
theorem cf_X8_sayPlace : CF RX8 yX8_sayPlace cX8_sayPlace 4 none 3 := ⟨q2631, qs119, q150, q2632, by decide +kernel⟩
theorem mX8_sayPlace {Γ : Gm} {l : Launch} {G : Nat → Nat} {wB : Wd} {x : TS} {w : Wd} (hw : tW Γ G wB x w) {L : Nat} (h : x.1 19 = nI L) (hL : L + 11 ≤ 60) (c : Int32) (a b : Nat) (ha : a < 10000) (hb : b < 10000) (u v : Int32) (hu : u = nI a) (hv : v = nI b) : M0 Γ l yX8_sayPlace (ws_ yX8_sayPlace cX8_sayPlace 4 none) (rl 2 0 0) 0 0 [.ref (G 61), .int c, .int u, .int v] w (fun r9 w9 => r9 = none ∧ tW Γ G wB (tw_sp c a b x) w9) := by
  refine M0.of (lv := [some (.ref (G 61)), some (.int c), some (.int u), some (.int v)]) (by decide) (Nat.le_of_ble_eq_true rfl) 0 rfl rfl ?_
  intro X hX hR hl hG hnm
  subst hl; subst hG
  subst hu
  subst hv
  have ga := dg_le ha
  have gb := dg_le hb
  refine v_aload_n hX dX8_sayPlace_0 rfl ?_
  refine v_bipush hX dX8_sayPlace_1 lb32 ?_
  refine tv_call0 hX rfl dX8_sayPlace_3 q2625 cf_X8_say hw (mX8_say hw h (by omega) _) rfl ⟨rfl, rfl⟩ ⟨Nat.le_of_ble_eq_true rfl, Nat.le_of_ble_eq_true rfl⟩ rfl (Nat.le_of_ble_eq_true rfl) ⟨Nat.le_of_ble_eq_true rfl, Nat.le_of_ble_eq_true rfl⟩ (fun w hw => ?_)
  refine v_aload_n hX dX8_sayPlace_6 rfl ?_
  refine v_iload_n hX dX8_sayPlace_7 rfl ?_
  refine tv_call0 hX rfl dX8_sayPlace_8 q2625 cf_X8_say hw (mX8_say hw (say_19 h) (by omega) _) rfl ⟨rfl, rfl⟩ ⟨Nat.le_of_ble_eq_true rfl, Nat.le_of_ble_eq_true rfl⟩ rfl (Nat.le_of_ble_eq_true rfl) ⟨Nat.le_of_ble_eq_true rfl, Nat.le_of_ble_eq_true rfl⟩ (fun w hw => ?_)
  refine v_aload_n hX dX8_sayPlace_11 rfl ?_
  refine v_iload_n hX dX8_sayPlace_12 rfl ?_
  refine tv_call0 hX rfl dX8_sayPlace_13 q2633 cf_X8_sayNumber hw (mX8_sayNumber hw (say_19 (say_19 h)) (by omega) _ ha _ rfl) rfl ⟨rfl, rfl⟩ ⟨Nat.le_of_ble_eq_true rfl, Nat.le_of_ble_eq_true rfl⟩ rfl (Nat.le_of_ble_eq_true rfl) ⟨Nat.le_of_ble_eq_true rfl, Nat.le_of_ble_eq_true rfl⟩ (fun w hw => ?_)
  refine v_aload_n hX dX8_sayPlace_16 rfl ?_
  refine v_bipush hX dX8_sayPlace_17 lb64 ?_
  refine tv_call0 hX rfl dX8_sayPlace_19 q2625 cf_X8_say hw (mX8_say hw (sn_19 (say_19 (say_19 h))) (by omega) _) rfl ⟨rfl, rfl⟩ ⟨Nat.le_of_ble_eq_true rfl, Nat.le_of_ble_eq_true rfl⟩ rfl (Nat.le_of_ble_eq_true rfl) ⟨Nat.le_of_ble_eq_true rfl, Nat.le_of_ble_eq_true rfl⟩ (fun w hw => ?_)
  refine v_aload_n hX dX8_sayPlace_22 rfl ?_
  refine v_iload_n hX dX8_sayPlace_23 rfl ?_
  refine tv_call0 hX rfl dX8_sayPlace_24 q2633 cf_X8_sayNumber hw (mX8_sayNumber hw (say_19 (sn_19 (say_19 (say_19 h)))) (by omega) _ hb _ rfl) rfl ⟨rfl, rfl⟩ ⟨Nat.le_of_ble_eq_true rfl, Nat.le_of_ble_eq_true rfl⟩ rfl (Nat.le_of_ble_eq_true rfl) ⟨Nat.le_of_ble_eq_true rfl, Nat.le_of_ble_eq_true rfl⟩ (fun w hw => ?_)
  exact v_vret hX dX8_sayPlace_27 hR (Nat.le_of_ble_eq_true rfl) (Nat.le_of_ble_eq_true rfl) (⟨rfl, hw⟩)
end
