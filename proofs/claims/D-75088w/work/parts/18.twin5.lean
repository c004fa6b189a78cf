/-! the twin: texts -/
noncomputable section
set_option maxRecDepth 100000
theorem lb10 : (Int8.ofInt (10)).toInt32 = 10 := by decide +kernel
theorem lb32 : (Int8.ofInt (32)).toInt32 = 32 := by decide +kernel
theorem lb48 : (Int8.ofInt (48)).toInt32 = 48 := by decide +kernel
theorem lb57 : (Int8.ofInt (57)).toInt32 = 57 := by decide +kernel
theorem lb59 : (Int8.ofInt (59)).toInt32 = 59 := by decide +kernel
theorem lb97 : (Int8.ofInt (97)).toInt32 = 97 := by decide +kernel
theorem lb99 : (Int8.ofInt (99)).toInt32 = 99 := by decide +kernel
theorem lb100 : (Int8.ofInt (100)).toInt32 = 100 := by decide +kernel
theorem lb101 : (Int8.ofInt (101)).toInt32 = 101 := by decide +kernel
theorem lb103 : (Int8.ofInt (103)).toInt32 = 103 := by decide +kernel
theorem lb104 : (Int8.ofInt (104)).toInt32 = 104 := by decide +kernel
theorem lb105 : (Int8.ofInt (105)).toInt32 = 105 := by decide +kernel
theorem lb107 : (Int8.ofInt (107)).toInt32 = 107 := by decide +kernel
theorem lb108 : (Int8.ofInt (108)).toInt32 = 108 := by decide +kernel
theorem lb109 : (Int8.ofInt (109)).toInt32 = 109 := by decide +kernel
theorem lb110 : (Int8.ofInt (110)).toInt32 = 110 := by decide +kernel
theorem lb111 : (Int8.ofInt (111)).toInt32 = 111 := by decide +kernel
theorem lb114 : (Int8.ofInt (114)).toInt32 = 114 := by decide +kernel
theorem lb115 : (Int8.ofInt (115)).toInt32 = 115 := by decide +kernel
theorem lb116 : (Int8.ofInt (116)).toInt32 = 116 := by decide +kernel
theorem lb117 : (Int8.ofInt (117)).toInt32 = 117 := by decide +kernel
theorem lb118 : (Int8.ofInt (118)).toInt32 = 118 := by decide +kernel
theorem lb119 : (Int8.ofInt (119)).toInt32 = 119 := by decide +kernel
theorem lb120 : (Int8.ofInt (120)).toInt32 = 120 := by decide +kernel
theorem lb122 : (Int8.ofInt (122)).toInt32 = 122 := by decide +kernel
/-- a run: how many from s on, at most f -/
def run (p : Nat → Prop) [DecidablePred p] : Nat → Nat → Nat
  | 0, _ => 0
  | f + 1, s => if p s then run p f (s + 1) + 1 else 0
termination_by f => f
theorem run_in {p : Nat → Prop} [DecidablePred p] : ∀ (f s i : Nat), i < run p f s → p (s + i)
  | 0, s, i, h => by rw [run] at h; exact absurd h (Nat.not_lt_zero i)
  | f + 1, s, i, h => by
    rw [run] at h
    split at h
    · rename_i hp
      match i, h with
      | 0, _ => exact hp
      | i + 1, h =>
        have := run_in (p := p) f (s + 1) i (by omega)
        rw [show s + (i + 1) = s + 1 + i by omega]
        exact this
    · exact absurd h (Nat.not_lt_zero i)
theorem run_out {p : Nat → Prop} [DecidablePred p] {B : Nat} (hB : ∀ j, B ≤ j → ¬ p j) : ∀ (f s : Nat), B ≤ s + f → ¬ p (s + run p f s)
  | 0, s, h => hB _ (by rw [run]; omega)
  | f + 1, s, h => by
    rw [run]
    split
    · have := run_out hB f (s + 1) (by omega)
      rw [show s + (run p f (s + 1) + 1) = s + 1 + run p f (s + 1) by omega]
      exact this
    · rename_i hp; exact hp
theorem run_le {p : Nat → Prop} [DecidablePred p] {B : Nat} (hB : ∀ j, B ≤ j → ¬ p j) : ∀ (f s : Nat), s ≤ B → s + run p f s ≤ B
  | 0, s, h => by rw [run]; omega
  | f + 1, s, h => by
    rw [run]
    split
    · rename_i hp
      have h1 : s < B := Nat.lt_of_not_le (fun q => hB s q hp)
      have := run_le hB f (s + 1) (by omega)
      omega
    · omega
def tl (x : TS) : Nat := (x.1 20).toNatClampNeg
def tp (x : TS) : Nat := (x.1 21).toNatClampNeg
/-- the text and the place in it -/
def tX (x : TS) : Prop := tl x ≤ 700 ∧ x.1 20 = nI (tl x) ∧ tp x ≤ tl x ∧ x.1 21 = nI (tp x)
def tby (x : TS) (i : Int32) : Int32 := if x.1 20 ≤ i then 0 else tA x 15 i
abbrev tlet (x : TS) (i : Int32) : Prop := 97 ≤ tby x i ∧ tby x i ≤ 122
abbrev tdig (x : TS) (i : Int32) : Prop := 48 ≤ tby x i ∧ tby x i ≤ 57
abbrev tbla (x : TS) (i : Int32) : Prop := tby x i = 32 ∨ tby x i = 10
theorem tby_k {x y : TS} (h1 : y.1 20 = x.1 20) (h2 : y.2.2.1 15 = x.2.2.1 15) (i : Int32) : tby y i = tby x i := by
  unfold tby tA; rw [h1, h2]
theorem tby_end {x : TS} (h : tX x) {j : Nat} (hj : tl x ≤ j) (hj2 : j ≤ 100000) : tby x (nI j) = 0 := by
  unfold tby
  rw [if_pos (by rw [h.2.1]; exact nI_le hj (by omega))]
theorem tbx {x : TS} (h : tX x) (i : Nat) (hi : i ≤ 100000) : ¬ x.1 20 ≤ nI i → vp_in (nI i) 700 := by
  intro q
  rw [h.2.1] at q
  refine vnI ?_ (by decide)
  rcases Nat.lt_or_ge i 700 with z | z
  · exact z
  · exact absurd (nI_le (Nat.le_trans h.1 z) (by omega)) q
/-- a loop that goes one place further each time -/
theorem adv {F : Nat → TS → TS} (h : ∀ i y, (F i y).1 20 = y.1 20 ∧ (F i y).2.2.1 15 = y.2.2.1 15 ∧ (F i y).1 21 = y.1 21 + 1) : ∀ (n : Nat) (x : TS), (it F n x).1 20 = x.1 20 ∧ (it F n x).2.2.1 15 = x.2.2.1 15 ∧ (it F n x).1 21 = x.1 21 + nI n
  | 0, x => ⟨rfl, rfl, by show x.1 21 = x.1 21 + nI 0; rw [nI_0, Int32.add_zero]⟩
  | n + 1, x => by
    obtain ⟨a, b, c⟩ := adv h n x
    obtain ⟨a', b', c'⟩ := h n (it F n x)
    refine ⟨a'.trans a, b'.trans b, ?_⟩
    show (F n (it F n x)).1 21 = _
    rw [c', c, Int32.add_assoc, nI_1]
theorem sI_s {x : TS} {j : Nat} {v : Int32} : (sI x j v).1 j = v := pk_us
theorem sI_n {x : TS} {j i : Nat} {v : Int32} (h : i ≠ j) : (sI x j v).1 i = x.1 i := pk_un h
theorem sL_1 {x : TS} {j : Nat} {v : Int64} : (sL x j v).1 = x.1 := rfl
theorem sI_2 {x : TS} {j : Nat} {v : Int32} : (sI x j v).2 = x.2 := rfl
theorem sL_2 {x : TS} {j : Nat} {v : Int64} : (sL x j v).2.2 = x.2.2 := rfl
theorem cf_X8_byteAt : CF RX8 yX8_byteAt cX8_byteAt 2 (some .int) 1 := ⟨q2132, qs44, q150, q2133, by decide +kernel⟩
theorem mX8_byteAt {Γ : Gm} {l : Launch} {G : Nat → Nat} {wB : Wd} {x : TS} {w : Wd} (hw : tW Γ G wB x w) (i : Int32) (hi : ¬ x.1 20 ≤ i → vp_in i 700) : MRd Γ l yX8_byteAt (ws_ yX8_byteAt cX8_byteAt 2 (some .int)) (rl 0 0 0) [.ref (G 61), .int i] w (.int (tby x i)) := by
  refine M0.of (lv := [some (.ref (G 61)), some (.int i)]) (by decide) (Nat.le_of_ble_eq_true rfl) 0 rfl rfl ?_
  intro X hX hR hl hG hnm
  subst hl; subst hG
  refine v_iload_n hX dX8_byteAt_0 rfl ?_
  refine v_aload_n hX dX8_byteAt_1 rfl ?_
  refine tv_getI hX dX8_byteAt_2 hw 20 (by decide) rfl q1929 ?_
  refine v_icmp_ge (tgt := 17) hX dX8_byteAt_5 rfl (fun c_5 => ?_) (fun c_5 => ?_)
  · refine v_iconst hX dX8_byteAt_17 li0 ?_
    exact v_iret hX dX8_byteAt_18 hR (Nat.le_of_ble_eq_true rfl) (Nat.le_of_ble_eq_true rfl) (⟨congrArg (fun z => some (Value.int z)) (Eq.symm (by first | (rw [tby, if_pos c_5]; done) | (rw [tby, if_pos c_5]; rfl))), rfl⟩)
  · refine v_aload_n hX dX8_byteAt_8 rfl ?_
    refine tv_getA hX dX8_byteAt_9 hw 15 (by decide) rfl q1924 ?_
    refine v_iload_n hX dX8_byteAt_12 rfl ?_
    refine tv_bald hX dX8_byteAt_13 hw (by decide) rfl rfl (hi c_5) ?_
    refine v_goto (tgt := 18) hX dX8_byteAt_14 rfl ?_
    exact v_iret hX dX8_byteAt_18 hR (Nat.le_of_ble_eq_true rfl) (Nat.le_of_ble_eq_true rfl) (⟨congrArg (fun z => some (Value.int z)) (Eq.symm (by first | (rw [tby, if_neg c_5]; done) | (rw [tby, if_neg c_5]; rfl))), rfl⟩)
theorem cf_X8_isLetter : CF RX8 yX8_isLetter cX8_isLetter 2 (some .boolean) 1 := ⟨q2136, qs45, q150, q2137, by decide +kernel⟩
theorem mX8_isLetter {Γ : Gm} {l : Launch} {G : Nat → Nat} {wB : Wd} {x : TS} {w : Wd} (hw : tW Γ G wB x w) (i : Int32) (hi : ¬ x.1 20 ≤ i → vp_in i 700) : MRd Γ l yX8_isLetter (ws_ yX8_isLetter cX8_isLetter 2 (some .boolean)) (rl 1 0 0) [.ref (G 61), .int i] w (.int (bi (tlet x i))) := by
  refine M0.of (lv := [some (.ref (G 61)), some (.int i)]) (by decide) (Nat.le_of_ble_eq_true rfl) 0 rfl rfl ?_
  intro X hX hR hl hG hnm
  subst hl; subst hG
  refine v_aload_n hX dX8_isLetter_0 rfl ?_
  refine v_iload_n hX dX8_isLetter_1 rfl ?_
  refine tv_callR hX rfl dX8_isLetter_2 q2130 cf_X8_byteAt hw (mX8_byteAt hw _ hi) rfl ⟨rfl, rfl⟩ ⟨Nat.le_of_ble_eq_true rfl, Nat.le_of_ble_eq_true rfl⟩ rfl (Nat.le_of_ble_eq_true rfl) ⟨Nat.le_of_ble_eq_true rfl, Nat.le_of_ble_eq_true rfl⟩ ?_
  refine v_bipush hX dX8_isLetter_5 lb97 ?_
  refine v_bipush hX dX8_isLetter_7 lb122 ?_
  refine v_callSr hX rfl dX8_isLetter_9 q2115 cs_X8_isIn (mX8_isIn _ _ _) rfl ⟨rfl, rfl⟩ ⟨Nat.le_of_ble_eq_true rfl, Nat.le_of_ble_eq_true rfl⟩ rfl (Nat.le_of_ble_eq_true rfl) ⟨Nat.le_of_ble_eq_true rfl, Nat.le_of_ble_eq_true rfl⟩ ?_
  exact v_zret hX dX8_isLetter_12 hR (Nat.le_of_ble_eq_true rfl) (Nat.le_of_ble_eq_true rfl) (bi_nar) (⟨rfl, rfl⟩)
theorem cf_X8_isDigit : CF RX8 yX8_isDigit cX8_isDigit 2 (some .boolean) 1 := ⟨q2146, qs47, q150, q2147, by decide +kernel⟩
theorem mX8_isDigit {Γ : Gm} {l : Launch} {G : Nat → Nat} {wB : Wd} {x : TS} {w : Wd} (hw : tW Γ G wB x w) (i : Int32) (hi : ¬ x.1 20 ≤ i → vp_in i 700) : MRd Γ l yX8_isDigit (ws_ yX8_isDigit cX8_isDigit 2 (some .boolean)) (rl 1 0 0) [.ref (G 61), .int i] w (.int (bi (tdig x i))) := by
  refine M0.of (lv := [some (.ref (G 61)), some (.int i)]) (by decide) (Nat.le_of_ble_eq_true rfl) 0 rfl rfl ?_
  intro X hX hR hl hG hnm
  subst hl; subst hG
  refine v_aload_n hX dX8_isDigit_0 rfl ?_
  refine v_iload_n hX dX8_isDigit_1 rfl ?_
  refine tv_callR hX rfl dX8_isDigit_2 q2130 cf_X8_byteAt hw (mX8_byteAt hw _ hi) rfl ⟨rfl, rfl⟩ ⟨Nat.le_of_ble_eq_true rfl, Nat.le_of_ble_eq_true rfl⟩ rfl (Nat.le_of_ble_eq_true rfl) ⟨Nat.le_of_ble_eq_true rfl, Nat.le_of_ble_eq_true rfl⟩ ?_
  refine v_bipush hX dX8_isDigit_5 lb48 ?_
  refine v_bipush hX dX8_isDigit_7 lb57 ?_
  refine v_callSr hX rfl dX8_isDigit_9 q2115 cs_X8_isIn (mX8_isIn _ _ _) rfl ⟨rfl, rfl⟩ ⟨Nat.le_of_ble_eq_true rfl, Nat.le_of_ble_eq_true rfl⟩ rfl (Nat.le_of_ble_eq_true rfl) ⟨Nat.le_of_ble_eq_true rfl, Nat.le_of_ble_eq_true rfl⟩ ?_
  exact v_zret hX dX8_isDigit_12 hR (Nat.le_of_ble_eq_true rfl) (Nat.le_of_ble_eq_true rfl) (bi_nar) (⟨rfl, rfl⟩)
theorem cf_X8_isBlank : CF RX8 yX8_isBlank cX8_isBlank 2 (some .boolean) 1 := ⟨q2128, qs43, q150, q2129, by decide +kernel⟩
theorem mX8_isBlank {Γ : Gm} {l : Launch} {G : Nat → Nat} {wB : Wd} {x : TS} {w : Wd} (hw : tW Γ G wB x w) (i : Int32) (hi : ¬ x.1 20 ≤ i → vp_in i 700) : MRd Γ l yX8_isBlank (ws_ yX8_isBlank cX8_isBlank 2 (some .boolean)) (rl 1 0 0) [.ref (G 61), .int i] w (.int (bi (tbla x i))) := by
  refine M0.of (lv := [some (.ref (G 61)), some (.int i)]) (by decide) (Nat.le_of_ble_eq_true rfl) 0 rfl rfl ?_
  intro X hX hR hl hG hnm
  subst hl; subst hG
  refine v_aload_n hX dX8_isBlank_0 rfl ?_
  refine v_iload_n hX dX8_isBlank_1 rfl ?_
  refine tv_callR hX rfl dX8_isBlank_2 q2130 cf_X8_byteAt hw (mX8_byteAt hw _ hi) rfl ⟨rfl, rfl⟩ ⟨Nat.le_of_ble_eq_true rfl, Nat.le_of_ble_eq_true rfl⟩ rfl (Nat.le_of_ble_eq_true rfl) ⟨Nat.le_of_ble_eq_true rfl, Nat.le_of_ble_eq_true rfl⟩ ?_
  refine v_bipush hX dX8_isBlank_5 lb32 ?_
  refine v_icmp_eq (tgt := 20) hX dX8_isBlank_7 rfl (fun c_7 => ?_) (fun c_7 => ?_)
  · refine v_iconst hX dX8_isBlank_20 li1 ?_
    refine v_goto (tgt := 25) hX dX8_isBlank_21 rfl ?_
    exact v_zret hX dX8_isBlank_25 hR (Nat.le_of_ble_eq_true rfl) (Nat.le_of_ble_eq_true rfl) (rfl) (⟨by simp [bi, tbla, *], rfl⟩)
  · refine v_aload_n hX dX8_isBlank_10 rfl ?_
    refine v_iload_n hX dX8_isBlank_11 rfl ?_
    refine tv_callR hX rfl dX8_isBlank_12 q2130 cf_X8_byteAt hw (mX8_byteAt hw _ hi) rfl ⟨rfl, rfl⟩ ⟨Nat.le_of_ble_eq_true rfl, Nat.le_of_ble_eq_true rfl⟩ rfl (Nat.le_of_ble_eq_true rfl) ⟨Nat.le_of_ble_eq_true rfl, Nat.le_of_ble_eq_true rfl⟩ ?_
    refine v_bipush hX dX8_isBlank_15 lb10 ?_
    refine v_icmp_ne (tgt := 24) hX dX8_isBlank_17 rfl (fun c_17 => ?_) (fun c_17 => ?_)
    · refine v_iconst hX dX8_isBlank_24 li0 ?_
      exact v_zret hX dX8_isBlank_25 hR (Nat.le_of_ble_eq_true rfl) (Nat.le_of_ble_eq_true rfl) (rfl) (⟨by simp [bi, tbla, *], rfl⟩)
    · refine v_iconst hX dX8_isBlank_20 li1 ?_
      refine v_goto (tgt := 25) hX dX8_isBlank_21 rfl ?_
      exact v_zret hX dX8_isBlank_25 hR (Nat.le_of_ble_eq_true rfl) (Nat.le_of_ble_eq_true rfl) (rfl) (⟨by simp [bi, tbla, *], rfl⟩)
def tw_adv (y : TS) : TS := sI y 21 (y.1 21 + 1)
def tw_rw1 (i : Nat) (y : TS) : TS := tw_adv (if 10 ≤ nI i then y else sL y 25 (32 * y.2.1 25 + (tby y (y.1 21)).toInt64 - 97 + 1))
def tw_wl (x : TS) : Nat := run (fun j => tlet x (nI j)) 701 (tp x)
def tw_rw (x : TS) : TS := (fun y => sI y 23 (if nI (tw_wl x) ≤ 10 then 1 else 4)) (it tw_rw1 (tw_wl x) (sL x 25 0))
def tw_rn1 (i : Nat) (y : TS) : TS := tw_adv (if 4 ≤ nI i then y else sI y 24 (10 * y.1 24 + tby y (y.1 21) - 48))
def tw_nl (x : TS) : Nat := run (fun j => tdig x (nI j)) 701 (tp x)
def tw_rn (x : TS) : TS := (fun y => sI y 23 (if nI (tw_nl x) ≤ 4 then 2 else 4)) (it tw_rn1 (tw_nl x) (sI x 24 0))
theorem rw1_adv (i : Nat) (y : TS) : (tw_rw1 i y).1 20 = y.1 20 ∧ (tw_rw1 i y).2.2.1 15 = y.2.2.1 15 ∧ (tw_rw1 i y).1 21 = y.1 21 + 1 := by
  unfold tw_rw1 tw_adv
  split <;> exact ⟨rfl, rfl, rfl⟩
theorem rn1_adv (i : Nat) (y : TS) : (tw_rn1 i y).1 20 = y.1 20 ∧ (tw_rn1 i y).2.2.1 15 = y.2.2.1 15 ∧ (tw_rn1 i y).1 21 = y.1 21 + 1 := by
  unfold tw_rn1 tw_adv
  split <;> exact ⟨rfl, rfl, rfl⟩
theorem let_end {x : TS} (h : tX x) {j : Nat} (hj : tl x ≤ j) (hj2 : j ≤ 100000) : ¬ tlet x (nI j) := by
  intro q
  have := q.1
  rw [tby_end h hj hj2] at this
  exact absurd this (by decide)
theorem dig_end {x : TS} (h : tX x) {j : Nat} (hj : tl x ≤ j) (hj2 : j ≤ 100000) : ¬ tdig x (nI j) := by
  intro q
  have := q.1
  rw [tby_end h hj hj2] at this
  exact absurd this (by decide)
theorem run_out' {p : Nat → Prop} [DecidablePred p] {B C : Nat} (hB : ∀ j, B ≤ j → j ≤ C → ¬ p j) : ∀ (f s : Nat), B ≤ s + f → s + f ≤ C → ¬ p (s + run p f s) ∧ s + run p f s ≤ s + f
  | 0, s, h, hC => ⟨hB _ (by rw [run]; omega) (by rw [run]; omega), by rw [run]; omega⟩
  | f + 1, s, h, hC => by
    rw [run]
    split
    · have := run_out' hB f (s + 1) (by omega) (by omega)
      rw [show s + (run p f (s + 1) + 1) = s + 1 + run p f (s + 1) by omega]
      exact ⟨this.1, by omega⟩
    · rename_i hp; exact ⟨hp, by omega⟩
theorem run_le' {p : Nat → Prop} [DecidablePred p] {B C : Nat} (hB : ∀ j, B ≤ j → j ≤ C → ¬ p j) : ∀ (f s : Nat), s ≤ B → s + f ≤ C → s + run p f s ≤ B
  | 0, s, h, hC => by rw [run]; omega
  | f + 1, s, h, hC => by
    rw [run]
    split
    · rename_i hp
      have h1 : s < B := Nat.lt_of_not_le (fun q => hB s q (by omega) hp)
      have := run_le' hB f (s + 1) (by omega) (by omega)
      omega
    · omega
theorem wl_out {x : TS} (h : tX x) : ¬ tlet x (nI (tp x + tw_wl x)) ∧ tp x + tw_wl x ≤ tl x := by
  have h1 := h.1
  have h3 := h.2.2.1
  exact ⟨(run_out' (B := tl x) (C := 100000) (fun j a b => let_end h a b) 701 (tp x) (by omega) (by omega)).1, run_le' (C := 100000) (fun j a b => let_end h a b) 701 (tp x) h3 (by omega)⟩
theorem nl_out {x : TS} (h : tX x) : ¬ tdig x (nI (tp x + tw_nl x)) ∧ tp x + tw_nl x ≤ tl x := by
  have h1 := h.1
  have h3 := h.2.2.1
  exact ⟨(run_out' (B := tl x) (C := 100000) (fun j a b => dig_end h a b) 701 (tp x) (by omega) (by omega)).1, run_le' (C := 100000) (fun j a b => dig_end h a b) 701 (tp x) h3 (by omega)⟩
theorem cf_X8_readWord : CF RX8 yX8_readWord cX8_readWord 2 none 0 := ⟨q2140, qs46, q150, q2141, by decide +kernel⟩
theorem mX8_readWord {Γ : Gm} {l : Launch} {G : Nat → Nat} {wB : Wd} {x : TS} {w : Wd} (hw : tW Γ G wB x w) (hT : tX x) : M0 Γ l yX8_readWord (ws_ yX8_readWord cX8_readWord 2 none) (rl 2 0 0) 0 0 [.ref (G 61)] w (fun r9 w9 => r9 = none ∧ tW Γ G wB (tw_rw x) w9) := by
  refine M0.of (lv := [some (.ref (G 61)), none]) (by decide) (Nat.le_of_ble_eq_true rfl) 1 rfl rfl ?_
  intro X hX hR hl hG hnm
  subst hl; subst hG
  refine v_aload_n hX dX8_readWord_0 rfl ?_
  refine v_lconst hX dX8_readWord_1 rfl ?_
  refine tv_putL hX dX8_readWord_2 hw 25 (by decide) rfl q1934 rfl (by decide +kernel) (fun w hw => ?_)
  refine v_iconst hX dX8_readWord_5 li0 ?_
  refine v_istore_n (lv' := [_, _]) hX dX8_readWord_6 (Nat.le_of_ble_eq_true rfl) rfl rfl ?_
  refine loop_up (tw_wl x) (fun i => ∀ w, tW (xG X) G wB ((it (tw_rw1) (i) (sL x 25 0))) w → V X w 0 0 7 [some (.ref (G 61)), some (.int (nI (i)))] []) ?_ ?_ 0 (Nat.zero_le _) w hw
  · intro w hw
    obtain ⟨a1, a2, a3⟩ := adv rw1_adv (tw_wl x) (sL x 25 0)
    have hle := (wl_out hT).2
    have hT1 := hT.1
    have e21 : (it tw_rw1 (tw_wl x) (sL x 25 0)).1 21 = nI (tp x + tw_wl x) := by rw [a3]; show x.1 21 + nI _ = _; rw [hT.2.2.2, nI_add]
    have hq : ¬ tlet (it tw_rw1 (tw_wl x) (sL x 25 0)) ((it tw_rw1 (tw_wl x) (sL x 25 0)).1 21) := by intro q; have q : _ ∧ _ := q; rw [tby_k a1 a2, e21] at q; exact (wl_out hT).1 q
    have hv : ¬ (it tw_rw1 (tw_wl x) (sL x 25 0)).1 20 ≤ (it tw_rw1 (tw_wl x) (sL x 25 0)).1 21 → vp_in ((it tw_rw1 (tw_wl x) (sL x 25 0)).1 21) 700 := by rw [a1, e21]; exact tbx hT _ (by omega)
    refine v_aload_n hX dX8_readWord_7 rfl ?_
    refine v_aload_n hX dX8_readWord_8 rfl ?_
    refine tv_getI hX dX8_readWord_9 hw 21 (by decide) rfl q1930 ?_
    refine tv_callR hX rfl dX8_readWord_12 q2134 cf_X8_isLetter hw (mX8_isLetter hw _ hv) rfl ⟨rfl, rfl⟩ ⟨Nat.le_of_ble_eq_true rfl, Nat.le_of_ble_eq_true rfl⟩ rfl (Nat.le_of_ble_eq_true rfl) ⟨Nat.le_of_ble_eq_true rfl, Nat.le_of_ble_eq_true rfl⟩ ?_
    refine v_if_eq_t (tgt := 68) hX dX8_readWord_15 rfl (bi_0.mpr hq) ?_
    refine v_aload_n hX dX8_readWord_68 rfl ?_
    refine v_iload_n hX dX8_readWord_69 rfl ?_
    refine v_bipush hX dX8_readWord_70 lb10 ?_
    refine v_icmp_le (tgt := 79) hX dX8_readWord_72 rfl (fun c_72 => ?_) (fun c_72 => ?_)
    · refine v_iconst hX dX8_readWord_79 li1 ?_
      refine tv_putI hX dX8_readWord_80 hw 23 (by decide) rfl q1932 rfl (by decide +kernel) (fun w hw => ?_)
      exact v_vret hX dX8_readWord_83 hR (Nat.le_of_ble_eq_true rfl) (Nat.le_of_ble_eq_true rfl) (⟨rfl, hw.to (by rw [tw_rw, if_pos c_72])⟩)
    · refine v_iconst hX dX8_readWord_75 li4 ?_
      refine v_goto (tgt := 80) hX dX8_readWord_76 rfl ?_
      refine tv_putI hX dX8_readWord_80 hw 23 (by decide) rfl q1932 rfl (by decide +kernel) (fun w hw => ?_)
      exact v_vret hX dX8_readWord_83 hR (Nat.le_of_ble_eq_true rfl) (Nat.le_of_ble_eq_true rfl) (⟨rfl, hw.to (by rw [tw_rw, if_neg c_72])⟩)
  · intro i hi ih w hw
    have ih : ∀ w, tW (xG X) G wB ((tw_rw1) i ((it (tw_rw1) (i) (sL x 25 0)))) w → V X w 0 0 7 [some (.ref (G 61)), some (.int (nI (i + 1)))] [] := ih
    obtain ⟨a1, a2, a3⟩ := adv rw1_adv i (sL x 25 0)
    have hle := (wl_out hT).2
    have hT1 := hT.1
    have e21 : (it tw_rw1 i (sL x 25 0)).1 21 = nI (tp x + i) := by rw [a3]; show x.1 21 + nI i = _; rw [hT.2.2.2, nI_add]
    have hq : tlet (it tw_rw1 i (sL x 25 0)) ((it tw_rw1 i (sL x 25 0)).1 21) := by have q := run_in 701 (tp x) i hi; show _ ∧ _; rw [tby_k a1 a2, e21]; exact q
    have hv : ¬ (it tw_rw1 i (sL x 25 0)).1 20 ≤ (it tw_rw1 i (sL x 25 0)).1 21 → vp_in ((it tw_rw1 i (sL x 25 0)).1 21) 700 := by rw [a1, e21]; exact tbx hT _ (by omega)
    generalize (it (tw_rw1) (i) (sL x 25 0)) = y at hw ih hq hv a1 a2 a3 e21
    refine v_aload_n hX dX8_readWord_7 rfl ?_
    refine v_aload_n hX dX8_readWord_8 rfl ?_
    refine tv_getI hX dX8_readWord_9 hw 21 (by decide) rfl q1930 ?_
    refine tv_callR hX rfl dX8_readWord_12 q2134 cf_X8_isLetter hw (mX8_isLetter hw _ hv) rfl ⟨rfl, rfl⟩ ⟨Nat.le_of_ble_eq_true rfl, Nat.le_of_ble_eq_true rfl⟩ rfl (Nat.le_of_ble_eq_true rfl) ⟨Nat.le_of_ble_eq_true rfl, Nat.le_of_ble_eq_true rfl⟩ ?_
    refine v_if_eq_f (tgt := 68) hX dX8_readWord_15 rfl (bi_n0.mpr hq) ?_
    refine v_iload_n hX dX8_readWord_18 rfl ?_
    refine v_bipush hX dX8_readWord_19 lb10 ?_
    refine v_icmp_ge (tgt := 52) hX dX8_readWord_21 rfl (fun c_21 => ?_) (fun c_21 => ?_)
    · refine v_iinc (lv' := [_, _]) hX dX8_readWord_52 rfl li1 rfl rfl ?_
      refine v_aload_n hX dX8_readWord_55 rfl ?_
      refine v_dup hX dX8_readWord_56 rfl ?_
      refine tv_getI hX dX8_readWord_57 hw 21 (by decide) rfl q1930 ?_
      refine v_iconst hX dX8_readWord_60 li1 ?_
      refine v_iadd hX dX8_readWord_61 ?_
      refine tv_putI hX dX8_readWord_62 hw 21 (by decide) rfl q1930 rfl (by decide +kernel) (fun w hw => ?_)
      refine v_goto (tgt := 7) hX dX8_readWord_65 rfl ?_
      exact V.at rfl (by rw [nI_1]) rfl (ih w (hw.to (by first | (rw [tw_rw1, if_pos c_21]; done) | (rw [tw_rw1, if_pos c_21]; rfl))))
    · refine v_aload_n hX dX8_readWord_24 rfl ?_
      refine v_ldc2 hX dX8_readWord_25 q2142 ?_
      refine v_aload_n hX dX8_readWord_28 rfl ?_
      refine tv_getL hX dX8_readWord_29 hw 25 (by decide) rfl q1934 ?_
      refine v_lmul hX dX8_readWord_32 ?_
      refine v_aload_n hX dX8_readWord_33 rfl ?_
      refine v_aload_n hX dX8_readWord_34 rfl ?_
      refine tv_getI hX dX8_readWord_35 hw 21 (by decide) rfl q1930 ?_
      refine tv_callR hX rfl dX8_readWord_38 q2130 cf_X8_byteAt hw (mX8_byteAt hw _ hv) rfl ⟨rfl, rfl⟩ ⟨Nat.le_of_ble_eq_true rfl, Nat.le_of_ble_eq_true rfl⟩ rfl (Nat.le_of_ble_eq_true rfl) ⟨Nat.le_of_ble_eq_true rfl, Nat.le_of_ble_eq_true rfl⟩ ?_
      refine v_i2l hX dX8_readWord_41 ?_
      refine v_ladd hX dX8_readWord_42 ?_
      refine v_ldc2 hX dX8_readWord_43 q2143 ?_
      refine v_lsub hX dX8_readWord_46 ?_
      refine v_lconst hX dX8_readWord_47 rfl ?_
      refine v_ladd hX dX8_readWord_48 ?_
      refine tv_putL hX dX8_readWord_49 hw 25 (by decide) rfl q1934 rfl (by decide +kernel) (fun w hw => ?_)
      refine v_iinc (lv' := [_, _]) hX dX8_readWord_52 rfl li1 rfl rfl ?_
      refine v_aload_n hX dX8_readWord_55 rfl ?_
      refine v_dup hX dX8_readWord_56 rfl ?_
      refine tv_getI hX dX8_readWord_57 hw 21 (by decide) rfl q1930 ?_
      refine v_iconst hX dX8_readWord_60 li1 ?_
      refine v_iadd hX dX8_readWord_61 ?_
      refine tv_putI hX dX8_readWord_62 hw 21 (by decide) rfl q1930 rfl (by decide +kernel) (fun w hw => ?_)
      refine v_goto (tgt := 7) hX dX8_readWord_65 rfl ?_
      exact V.at rfl (by rw [nI_1]) rfl (ih w (hw.to (by first | (rw [tw_rw1, if_neg c_21]; done) | (rw [tw_rw1, if_neg c_21]; rfl))))
theorem cf_X8_readNumber : CF RX8 yX8_readNumber cX8_readNumber 2 none 0 := ⟨q2150, qs48, q150, q2151, by decide +kernel⟩
theorem mX8_readNumber {Γ : Gm} {l : Launch} {G : Nat → Nat} {wB : Wd} {x : TS} {w : Wd} (hw : tW Γ G wB x w) (hT : tX x) : M0 Γ l yX8_readNumber (ws_ yX8_readNumber cX8_readNumber 2 none) (rl 2 0 0) 0 0 [.ref (G 61)] w (fun r9 w9 => r9 = none ∧ tW Γ G wB (tw_rn x) w9) := by
  refine M0.of (lv := [some (.ref (G 61)), none]) (by decide) (Nat.le_of_ble_eq_true rfl) 1 rfl rfl ?_
  intro X hX hR hl hG hnm
  subst hl; subst hG
  refine v_aload_n hX dX8_readNumber_0 rfl ?_
  refine v_iconst hX dX8_readNumber_1 li0 ?_
  refine tv_putI hX dX8_readNumber_2 hw 24 (by decide) rfl q1933 rfl (by decide +kernel) (fun w hw => ?_)
  refine v_iconst hX dX8_readNumber_5 li0 ?_
  refine v_istore_n (lv' := [_, _]) hX dX8_readNumber_6 (Nat.le_of_ble_eq_true rfl) rfl rfl ?_
  refine loop_up (tw_nl x) (fun i => ∀ w, tW (xG X) G wB ((it (tw_rn1) (i) (sI x 24 0))) w → V X w 0 0 7 [some (.ref (G 61)), some (.int (nI (i)))] []) ?_ ?_ 0 (Nat.zero_le _) w hw
  · intro w hw
    obtain ⟨a1, a2, a3⟩ := adv rn1_adv (tw_nl x) (sI x 24 0)
    have hle := (nl_out hT).2
    have hT1 := hT.1
    have e21 : (it tw_rn1 (tw_nl x) (sI x 24 0)).1 21 = nI (tp x + tw_nl x) := by rw [a3]; show x.1 21 + nI _ = _; rw [hT.2.2.2, nI_add]
    have hq : ¬ tdig (it tw_rn1 (tw_nl x) (sI x 24 0)) ((it tw_rn1 (tw_nl x) (sI x 24 0)).1 21) := by intro q; have q : _ ∧ _ := q; rw [tby_k a1 a2, e21] at q; exact (nl_out hT).1 q
    have hv : ¬ (it tw_rn1 (tw_nl x) (sI x 24 0)).1 20 ≤ (it tw_rn1 (tw_nl x) (sI x 24 0)).1 21 → vp_in ((it tw_rn1 (tw_nl x) (sI x 24 0)).1 21) 700 := by rw [a1, e21]; exact tbx hT _ (by omega)
    refine v_aload_n hX dX8_readNumber_7 rfl ?_
    refine v_aload_n hX dX8_readNumber_8 rfl ?_
    refine tv_getI hX dX8_readNumber_9 hw 21 (by decide) rfl q1930 ?_
    refine tv_callR hX rfl dX8_readNumber_12 q2144 cf_X8_isDigit hw (mX8_isDigit hw _ hv) rfl ⟨rfl, rfl⟩ ⟨Nat.le_of_ble_eq_true rfl, Nat.le_of_ble_eq_true rfl⟩ rfl (Nat.le_of_ble_eq_true rfl) ⟨Nat.le_of_ble_eq_true rfl, Nat.le_of_ble_eq_true rfl⟩ ?_
    refine v_if_eq_t (tgt := 62) hX dX8_readNumber_15 rfl (bi_0.mpr hq) ?_
    refine v_aload_n hX dX8_readNumber_62 rfl ?_
    refine v_iload_n hX dX8_readNumber_63 rfl ?_
    refine v_iconst hX dX8_readNumber_64 li4 ?_
    refine v_icmp_le (tgt := 72) hX dX8_readNumber_65 rfl (fun c_65 => ?_) (fun c_65 => ?_)
    · refine v_iconst hX dX8_readNumber_72 li2 ?_
      refine tv_putI hX dX8_readNumber_73 hw 23 (by decide) rfl q1932 rfl (by decide +kernel) (fun w hw => ?_)
      exact v_vret hX dX8_readNumber_76 hR (Nat.le_of_ble_eq_true rfl) (Nat.le_of_ble_eq_true rfl) (⟨rfl, hw.to (by rw [tw_rn, if_pos c_65])⟩)
    · refine v_iconst hX dX8_readNumber_68 li4 ?_
      refine v_goto (tgt := 73) hX dX8_readNumber_69 rfl ?_
      refine tv_putI hX dX8_readNumber_73 hw 23 (by decide) rfl q1932 rfl (by decide +kernel) (fun w hw => ?_)
      exact v_vret hX dX8_readNumber_76 hR (Nat.le_of_ble_eq_true rfl) (Nat.le_of_ble_eq_true rfl) (⟨rfl, hw.to (by rw [tw_rn, if_neg c_65])⟩)
  · intro i hi ih w hw
    have ih : ∀ w, tW (xG X) G wB ((tw_rn1) i ((it (tw_rn1) (i) (sI x 24 0)))) w → V X w 0 0 7 [some (.ref (G 61)), some (.int (nI (i + 1)))] [] := ih
    obtain ⟨a1, a2, a3⟩ := adv rn1_adv i (sI x 24 0)
    have hle := (nl_out hT).2
    have hT1 := hT.1
    have e21 : (it tw_rn1 i (sI x 24 0)).1 21 = nI (tp x + i) := by rw [a3]; show x.1 21 + nI i = _; rw [hT.2.2.2, nI_add]
    have hq : tdig (it tw_rn1 i (sI x 24 0)) ((it tw_rn1 i (sI x 24 0)).1 21) := by have q := run_in 701 (tp x) i hi; show _ ∧ _; rw [tby_k a1 a2, e21]; exact q
    have hv : ¬ (it tw_rn1 i (sI x 24 0)).1 20 ≤ (it tw_rn1 i (sI x 24 0)).1 21 → vp_in ((it tw_rn1 i (sI x 24 0)).1 21) 700 := by rw [a1, e21]; exact tbx hT _ (by omega)
    generalize (it (tw_rn1) (i) (sI x 24 0)) = y at hw ih hq hv a1 a2 a3 e21
    refine v_aload_n hX dX8_readNumber_7 rfl ?_
    refine v_aload_n hX dX8_readNumber_8 rfl ?_
    refine tv_getI hX dX8_readNumber_9 hw 21 (by decide) rfl q1930 ?_
    refine tv_callR hX rfl dX8_readNumber_12 q2144 cf_X8_isDigit hw (mX8_isDigit hw _ hv) rfl ⟨rfl, rfl⟩ ⟨Nat.le_of_ble_eq_true rfl, Nat.le_of_ble_eq_true rfl⟩ rfl (Nat.le_of_ble_eq_true rfl) ⟨Nat.le_of_ble_eq_true rfl, Nat.le_of_ble_eq_true rfl⟩ ?_
    refine v_if_eq_f (tgt := 62) hX dX8_readNumber_15 rfl (bi_n0.mpr hq) ?_
    refine v_iload_n hX dX8_readNumber_18 rfl ?_
    refine v_iconst hX dX8_readNumber_19 li4 ?_
    refine v_icmp_ge (tgt := 46) hX dX8_readNumber_20 rfl (fun c_20 => ?_) (fun c_20 => ?_)
    · refine v_iinc (lv' := [_, _]) hX dX8_readNumber_46 rfl li1 rfl rfl ?_
      refine v_aload_n hX dX8_readNumber_49 rfl ?_
      refine v_dup hX dX8_readNumber_50 rfl ?_
      refine tv_getI hX dX8_readNumber_51 hw 21 (by decide) rfl q1930 ?_
      refine v_iconst hX dX8_readNumber_54 li1 ?_
      refine v_iadd hX dX8_readNumber_55 ?_
      refine tv_putI hX dX8_readNumber_56 hw 21 (by decide) rfl q1930 rfl (by decide +kernel) (fun w hw => ?_)
      refine v_goto (tgt := 7) hX dX8_readNumber_59 rfl ?_
      exact V.at rfl (by rw [nI_1]) rfl (ih w (hw.to (by first | (rw [tw_rn1, if_pos c_20]; done) | (rw [tw_rn1, if_pos c_20]; rfl))))
    · refine v_aload_n hX dX8_readNumber_23 rfl ?_
      refine v_bipush hX dX8_readNumber_24 lb10 ?_
      refine v_aload_n hX dX8_readNumber_26 rfl ?_
      refine tv_getI hX dX8_readNumber_27 hw 24 (by decide) rfl q1933 ?_
      refine v_imul hX dX8_readNumber_30 ?_
      refine v_aload_n hX dX8_readNumber_31 rfl ?_
      refine v_aload_n hX dX8_readNumber_32 rfl ?_
      refine tv_getI hX dX8_readNumber_33 hw 21 (by decide) rfl q1930 ?_
      refine tv_callR hX rfl dX8_readNumber_36 q2130 cf_X8_byteAt hw (mX8_byteAt hw _ hv) rfl ⟨rfl, rfl⟩ ⟨Nat.le_of_ble_eq_true rfl, Nat.le_of_ble_eq_true rfl⟩ rfl (Nat.le_of_ble_eq_true rfl) ⟨Nat.le_of_ble_eq_true rfl, Nat.le_of_ble_eq_true rfl⟩ ?_
      refine v_iadd hX dX8_readNumber_39 ?_
      refine v_bipush hX dX8_readNumber_40 lb48 ?_
      refine v_isub hX dX8_readNumber_42 ?_
      refine tv_putI hX dX8_readNumber_43 hw 24 (by decide) rfl q1933 rfl (by decide +kernel) (fun w hw => ?_)
      refine v_iinc (lv' := [_, _]) hX dX8_readNumber_46 rfl li1 rfl rfl ?_
      refine v_aload_n hX dX8_readNumber_49 rfl ?_
      refine v_dup hX dX8_readNumber_50 rfl ?_
      refine tv_getI hX dX8_readNumber_51 hw 21 (by decide) rfl q1930 ?_
      refine v_iconst hX dX8_readNumber_54 li1 ?_
      refine v_iadd hX dX8_readNumber_55 ?_
      refine tv_putI hX dX8_readNumber_56 hw 21 (by decide) rfl q1930 rfl (by decide +kernel) (fun w hw => ?_)
      refine v_goto (tgt := 7) hX dX8_readNumber_59 rfl ?_
      exact V.at rfl (by rw [nI_1]) rfl (ih w (hw.to (by first | (rw [tw_rn1, if_neg c_20]; done) | (rw [tw_rn1, if_neg c_20]; rfl))))
def tw_skl (x : TS) : Nat := run (fun j => ¬ x.1 20 ≤ nI j ∧ tbla x (nI j)) 701 (tp x)
def tw_skip (x : TS) : TS := it (fun _ y => tw_adv y) (tw_skl x) x
theorem sk_end {x : TS} (h : tX x) {j : Nat} (hj : tl x ≤ j) (hj2 : j ≤ 100000) : ¬ (¬ x.1 20 ≤ nI j ∧ tbla x (nI j)) := by
  intro q
  exact q.1 (by rw [h.2.1]; exact nI_le hj (by omega))
theorem skl_out {x : TS} (h : tX x) : ¬ (¬ x.1 20 ≤ nI (tp x + tw_skl x) ∧ tbla x (nI (tp x + tw_skl x))) ∧ tp x + tw_skl x ≤ tl x := by
  have h1 := h.1
  have h3 := h.2.2.1
  exact ⟨(run_out' (B := tl x) (C := 100000) (fun j a b => sk_end h a b) 701 (tp x) (by omega) (by omega)).1, run_le' (C := 100000) (fun j a b => sk_end h a b) 701 (tp x) h3 (by omega)⟩
theorem sk_adv (i : Nat) (y : TS) : ((fun (_ : Nat) (y : TS) => tw_adv y) i y).1 20 = y.1 20 ∧ ((fun (_ : Nat) (y : TS) => tw_adv y) i y).2.2.1 15 = y.2.2.1 15 ∧ ((fun (_ : Nat) (y : TS) => tw_adv y) i y).1 21 = y.1 21 + 1 := ⟨rfl, rfl, rfl⟩
theorem clamp_nI {x : Int32} {j : Nat} (h : x = nI j) (hj : j ≤ 100000) : x.toNatClampNeg = j := by rw [h]; exact nI_clamp (by omega)
theorem tX_of {x y : TS} (hT : tX x) (h1 : y.1 20 = x.1 20) {j : Nat} (h2 : y.1 21 = nI j) (hj : j ≤ tl x) : tX y := by
  have e1 : tl y = tl x := by unfold tl; rw [h1]
  have e2 : tp y = j := clamp_nI h2 (Nat.le_trans hj (Nat.le_trans hT.1 (by decide)))
  exact ⟨by rw [e1]; exact hT.1, by rw [e1, h1]; exact hT.2.1, by rw [e1, e2]; exact hj, by rw [e2]; exact h2⟩
theorem tw_skip_X {x : TS} (hT : tX x) : tX (tw_skip x) := by
  obtain ⟨a1, a2, a3⟩ := adv sk_adv (tw_skl x) x
  refine tX_of hT a1 (j := tp x + tw_skl x) ?_ (skl_out hT).2
  show (it _ _ x).1 21 = _
  rw [a3, hT.2.2.2, nI_add]
theorem tX_sI {x : TS} (hT : tX x) {j : Nat} {v : Int32} (h1 : j ≠ 20) (h2 : j ≠ 21) : tX (sI x j v) := by
  refine tX_of hT (sI_n (Ne.symm h1)) (j := tp x) ?_ hT.2.2.1
  rw [sI_n (Ne.symm h2)]; exact hT.2.2.2
theorem tw_rw_X {x : TS} (hT : tX x) : tX (tw_rw x) := by
  obtain ⟨a1, a2, a3⟩ := adv rw1_adv (tw_wl x) (sL x 25 0)
  refine tX_of hT (y := tw_rw x) ?_ (j := tp x + tw_wl x) ?_ (wl_out hT).2
  · show (sI _ 23 _).1 20 = _; rw [sI_n (by decide)]; exact a1
  · show (sI _ 23 _).1 21 = _; rw [sI_n (by decide), a3]; show x.1 21 + _ = _; rw [hT.2.2.2, nI_add]
theorem tw_rn_X {x : TS} (hT : tX x) : tX (tw_rn x) := by
  obtain ⟨a1, a2, a3⟩ := adv rn1_adv (tw_nl x) (sI x 24 0)
  refine tX_of hT (y := tw_rn x) ?_ (j := tp x + tw_nl x) ?_ (nl_out hT).2
  · show (sI _ 23 _).1 20 = _; rw [sI_n (by decide)]; exact a1
  · show (sI _ 23 _).1 21 = _; rw [sI_n (by decide), a3]; show x.1 21 + _ = _; rw [hT.2.2.2, nI_add]
def tw_tk2 (y : TS) : TS := if y.1 21 < y.1 20 then if tlet y (y.1 21) then tw_rw y else if tdig y (y.1 21) then tw_rn y else if tby y (y.1 21) = 59 then tw_adv (sI y 23 3) else tw_adv (sI y 23 4) else sI y 23 0
def tw_tok_d (x : TS) : TS := tw_tk2 ((fun y => sI y 22 (y.1 21)) (tw_skip x))
theorem tw_tok_ex : ∃ g : TS → TS, ∀ x, g x = tw_tok_d x := ⟨tw_tok_d, fun _ => rfl⟩
noncomputable def tw_tok : TS → TS := Classical.choose tw_tok_ex
theorem tw_tok_eq (x : TS) : tw_tok x = tw_tk2 ((fun y => sI y 22 (y.1 21)) (tw_skip x)) := Classical.choose_spec tw_tok_ex x
theorem tv_of {x : TS} (hT : tX x) : ¬ x.1 20 ≤ x.1 21 → vp_in (x.1 21) 700 := by
  rw [hT.2.2.2]; exact tbx hT _ (Nat.le_trans hT.2.2.1 (Nat.le_trans hT.1 (by decide)))
theorem cf_X8_readToken : CF RX8 yX8_readToken cX8_readToken 1 none 0 := ⟨q2124, qs42, q150, q2125, by decide +kernel⟩
theorem mX8_readToken {Γ : Gm} {l : Launch} {G : Nat → Nat} {wB : Wd} {x : TS} {w : Wd} (hw : tW Γ G wB x w) (hT : tX x) : M0 Γ l yX8_readToken (ws_ yX8_readToken cX8_readToken 1 none) (rl 3 0 0) 0 0 [.ref (G 61)] w (fun r9 w9 => r9 = none ∧ tW Γ G wB (tw_tok x) w9) := by
  refine M0.of (lv := [some (.ref (G 61))]) (by decide) (Nat.le_of_ble_eq_true rfl) 0 rfl rfl ?_
  intro X hX hR hl hG hnm
  subst hl; subst hG
  refine loop_up (tw_skl x) (fun i => ∀ w, tW (xG X) G wB ((it ((fun _ y => tw_adv y)) (i) x)) w → V X w 0 0 0 [some (.ref (G 61))] []) ?_ ?_ 0 (Nat.zero_le _) w hw
  · intro w hw
    obtain ⟨a1, a2, a3⟩ := adv sk_adv (tw_skl x) x
    have hTs := tw_skip_X hT
    have hTs : tX (it (fun _ y => tw_adv y) (tw_skl x) x) := hTs
    have e21 : (it (fun _ y => tw_adv y) (tw_skl x) x).1 21 = nI (tp x + tw_skl x) := by rw [a3, hT.2.2.2, nI_add]
    have hq : ¬ (¬ (it (fun _ y => tw_adv y) (tw_skl x) x).1 20 ≤ (it (fun _ y => tw_adv y) (tw_skl x) x).1 21 ∧ tbla (it (fun _ y => tw_adv y) (tw_skl x) x) ((it (fun _ y => tw_adv y) (tw_skl x) x).1 21)) := by intro q; have q : _ ∧ (_ ∨ _) := q; rw [tby_k a1 a2, a1, e21] at q; exact (skl_out hT).1 q
    obtain ⟨z, hz⟩ : ∃ z, z = it (fun _ y => tw_adv y) (tw_skl x) x := ⟨_, rfl⟩
    rw [← hz] at hw hq hTs
    have hv := tv_of hTs
    have hTz : tX (sI z 22 (z.1 21)) := tX_sI hTs (by decide) (by decide)
    have hvz := tv_of hTz
    refine v_aload_n hX dX8_readToken_0 rfl ?_
    refine tv_getI hX dX8_readToken_1 hw 21 (by decide) rfl q1930 ?_
    refine v_aload_n hX dX8_readToken_4 rfl ?_
    refine tv_getI hX dX8_readToken_5 hw 20 (by decide) rfl q1929 ?_
    refine v_icmp_ge (tgt := 35) hX dX8_readToken_8 rfl (fun c_8 => ?_) (fun c_8 => ?_)
    · refine v_aload_n hX dX8_readToken_35 rfl ?_
      refine v_aload_n hX dX8_readToken_36 rfl ?_
      refine tv_getI hX dX8_readToken_37 hw 21 (by decide) rfl q1930 ?_
      refine tv_putI hX dX8_readToken_40 hw 22 (by decide) rfl q1931 rfl (by decide +kernel) (fun w hw => ?_)
      refine v_aload_n hX dX8_readToken_43 rfl ?_
      refine tv_getI hX dX8_readToken_44 hw 21 (by decide) rfl q1930 ?_
      refine v_aload_n hX dX8_readToken_47 rfl ?_
      refine tv_getI hX dX8_readToken_48 hw 20 (by decide) rfl q1929 ?_
      refine v_icmp_lt (tgt := 60) hX dX8_readToken_51 rfl (fun c_51 => ?_) (fun c_51 => ?_)
      · refine v_aload_n hX dX8_readToken_60 rfl ?_
        refine v_aload_n hX dX8_readToken_61 rfl ?_
        refine tv_getI hX dX8_readToken_62 hw 21 (by decide) rfl q1930 ?_
        refine tv_callR hX rfl dX8_readToken_65 q2134 cf_X8_isLetter hw (mX8_isLetter hw _ hvz) rfl ⟨rfl, rfl⟩ ⟨Nat.le_of_ble_eq_true rfl, Nat.le_of_ble_eq_true rfl⟩ rfl (Nat.le_of_ble_eq_true rfl) ⟨Nat.le_of_ble_eq_true rfl, Nat.le_of_ble_eq_true rfl⟩ ?_
        refine v_ifb_eq (tgt := 76) hX dX8_readToken_68 rfl (fun c_68 => ?_) (fun c_68 => ?_)
        · refine v_aload_n hX dX8_readToken_76 rfl ?_
          refine v_aload_n hX dX8_readToken_77 rfl ?_
          refine tv_getI hX dX8_readToken_78 hw 21 (by decide) rfl q1930 ?_
          refine tv_callR hX rfl dX8_readToken_81 q2144 cf_X8_isDigit hw (mX8_isDigit hw _ hvz) rfl ⟨rfl, rfl⟩ ⟨Nat.le_of_ble_eq_true rfl, Nat.le_of_ble_eq_true rfl⟩ rfl (Nat.le_of_ble_eq_true rfl) ⟨Nat.le_of_ble_eq_true rfl, Nat.le_of_ble_eq_true rfl⟩ ?_
          refine v_ifb_eq (tgt := 92) hX dX8_readToken_84 rfl (fun c_84 => ?_) (fun c_84 => ?_)
          · refine v_aload_n hX dX8_readToken_92 rfl ?_
            refine v_aload_n hX dX8_readToken_93 rfl ?_
            refine v_aload_n hX dX8_readToken_94 rfl ?_
            refine tv_getI hX dX8_readToken_95 hw 21 (by decide) rfl q1930 ?_
            refine tv_callR hX rfl dX8_readToken_98 q2130 cf_X8_byteAt hw (mX8_byteAt hw _ hvz) rfl ⟨rfl, rfl⟩ ⟨Nat.le_of_ble_eq_true rfl, Nat.le_of_ble_eq_true rfl⟩ rfl (Nat.le_of_ble_eq_true rfl) ⟨Nat.le_of_ble_eq_true rfl, Nat.le_of_ble_eq_true rfl⟩ ?_
            refine v_bipush hX dX8_readToken_101 lb59 ?_
            refine v_icmp_ne (tgt := 110) hX dX8_readToken_103 rfl (fun c_103 => ?_) (fun c_103 => ?_)
            · refine v_iconst hX dX8_readToken_110 li4 ?_
              refine tv_putI hX dX8_readToken_111 hw 23 (by decide) rfl q1932 rfl (by decide +kernel) (fun w hw => ?_)
              refine v_aload_n hX dX8_readToken_114 rfl ?_
              refine v_dup hX dX8_readToken_115 rfl ?_
              refine tv_getI hX dX8_readToken_116 hw 21 (by decide) rfl q1930 ?_
              refine v_iconst hX dX8_readToken_119 li1 ?_
              refine v_iadd hX dX8_readToken_120 ?_
              refine tv_putI hX dX8_readToken_121 hw 21 (by decide) rfl q1930 rfl (by decide +kernel) (fun w hw => ?_)
              exact v_vret hX dX8_readToken_124 hR (Nat.le_of_ble_eq_true rfl) (Nat.le_of_ble_eq_true rfl) (⟨rfl, hw.to (by first | (rw [tw_tok_eq, tw_skip, ← hz, tw_tk2, if_pos c_51, if_neg c_68, if_neg c_84, if_neg c_103]; done) | (rw [tw_tok_eq, tw_skip, ← hz, tw_tk2, if_pos c_51, if_neg c_68, if_neg c_84, if_neg c_103]; rfl))⟩)
            · refine v_iconst hX dX8_readToken_106 li3 ?_
              refine v_goto (tgt := 111) hX dX8_readToken_107 rfl ?_
              refine tv_putI hX dX8_readToken_111 hw 23 (by decide) rfl q1932 rfl (by decide +kernel) (fun w hw => ?_)
              refine v_aload_n hX dX8_readToken_114 rfl ?_
              refine v_dup hX dX8_readToken_115 rfl ?_
              refine tv_getI hX dX8_readToken_116 hw 21 (by decide) rfl q1930 ?_
              refine v_iconst hX dX8_readToken_119 li1 ?_
              refine v_iadd hX dX8_readToken_120 ?_
              refine tv_putI hX dX8_readToken_121 hw 21 (by decide) rfl q1930 rfl (by decide +kernel) (fun w hw => ?_)
              exact v_vret hX dX8_readToken_124 hR (Nat.le_of_ble_eq_true rfl) (Nat.le_of_ble_eq_true rfl) (⟨rfl, hw.to (by first | (rw [tw_tok_eq, tw_skip, ← hz, tw_tk2, if_pos c_51, if_neg c_68, if_neg c_84, if_pos c_103]; done) | (rw [tw_tok_eq, tw_skip, ← hz, tw_tk2, if_pos c_51, if_neg c_68, if_neg c_84, if_pos c_103]; rfl))⟩)
          · refine v_aload_n hX dX8_readToken_87 rfl ?_
            refine tv_call0 hX rfl dX8_readToken_88 q2148 cf_X8_readNumber hw (mX8_readNumber hw hTz) rfl ⟨rfl, rfl⟩ ⟨Nat.le_of_ble_eq_true rfl, Nat.le_of_ble_eq_true rfl⟩ rfl (Nat.le_of_ble_eq_true rfl) ⟨Nat.le_of_ble_eq_true rfl, Nat.le_of_ble_eq_true rfl⟩ (fun w hw => ?_)
            exact v_vret hX dX8_readToken_91 hR (Nat.le_of_ble_eq_true rfl) (Nat.le_of_ble_eq_true rfl) (⟨rfl, hw.to (by first | (rw [tw_tok_eq, tw_skip, ← hz, tw_tk2, if_pos c_51, if_neg c_68, if_pos c_84]; done) | (rw [tw_tok_eq, tw_skip, ← hz, tw_tk2, if_pos c_51, if_neg c_68, if_pos c_84]; rfl))⟩)
        · refine v_aload_n hX dX8_readToken_71 rfl ?_
          refine tv_call0 hX rfl dX8_readToken_72 q2138 cf_X8_readWord hw (mX8_readWord hw hTz) rfl ⟨rfl, rfl⟩ ⟨Nat.le_of_ble_eq_true rfl, Nat.le_of_ble_eq_true rfl⟩ rfl (Nat.le_of_ble_eq_true rfl) ⟨Nat.le_of_ble_eq_true rfl, Nat.le_of_ble_eq_true rfl⟩ (fun w hw => ?_)
          exact v_vret hX dX8_readToken_75 hR (Nat.le_of_ble_eq_true rfl) (Nat.le_of_ble_eq_true rfl) (⟨rfl, hw.to (by first | (rw [tw_tok_eq, tw_skip, ← hz, tw_tk2, if_pos c_51, if_pos c_68]; done) | (rw [tw_tok_eq, tw_skip, ← hz, tw_tk2, if_pos c_51, if_pos c_68]; rfl))⟩)
      · refine v_aload_n hX dX8_readToken_54 rfl ?_
        refine v_iconst hX dX8_readToken_55 li0 ?_
        refine tv_putI hX dX8_readToken_56 hw 23 (by decide) rfl q1932 rfl (by decide +kernel) (fun w hw => ?_)
        exact v_vret hX dX8_readToken_59 hR (Nat.le_of_ble_eq_true rfl) (Nat.le_of_ble_eq_true rfl) (⟨rfl, hw.to (by first | (rw [tw_tok_eq, tw_skip, ← hz, tw_tk2, if_neg c_51]; done) | (rw [tw_tok_eq, tw_skip, ← hz, tw_tk2, if_neg c_51]; rfl))⟩)
    · refine v_aload_n hX dX8_readToken_11 rfl ?_
      refine v_aload_n hX dX8_readToken_12 rfl ?_
      refine tv_getI hX dX8_readToken_13 hw 21 (by decide) rfl q1930 ?_
      refine tv_callR hX rfl dX8_readToken_16 q2126 cf_X8_isBlank hw (mX8_isBlank hw _ hv) rfl ⟨rfl, rfl⟩ ⟨Nat.le_of_ble_eq_true rfl, Nat.le_of_ble_eq_true rfl⟩ rfl (Nat.le_of_ble_eq_true rfl) ⟨Nat.le_of_ble_eq_true rfl, Nat.le_of_ble_eq_true rfl⟩ ?_
      refine v_ifb_eq (tgt := 35) hX dX8_readToken_19 rfl (fun c_19 => ?_) (fun c_19 => ?_)
      · refine v_aload_n hX dX8_readToken_35 rfl ?_
        refine v_aload_n hX dX8_readToken_36 rfl ?_
        refine tv_getI hX dX8_readToken_37 hw 21 (by decide) rfl q1930 ?_
        refine tv_putI hX dX8_readToken_40 hw 22 (by decide) rfl q1931 rfl (by decide +kernel) (fun w hw => ?_)
        refine v_aload_n hX dX8_readToken_43 rfl ?_
        refine tv_getI hX dX8_readToken_44 hw 21 (by decide) rfl q1930 ?_
        refine v_aload_n hX dX8_readToken_47 rfl ?_
        refine tv_getI hX dX8_readToken_48 hw 20 (by decide) rfl q1929 ?_
        refine v_icmp_lt (tgt := 60) hX dX8_readToken_51 rfl (fun c_51 => ?_) (fun c_51 => ?_)
        · refine v_aload_n hX dX8_readToken_60 rfl ?_
          refine v_aload_n hX dX8_readToken_61 rfl ?_
          refine tv_getI hX dX8_readToken_62 hw 21 (by decide) rfl q1930 ?_
          refine tv_callR hX rfl dX8_readToken_65 q2134 cf_X8_isLetter hw (mX8_isLetter hw _ hvz) rfl ⟨rfl, rfl⟩ ⟨Nat.le_of_ble_eq_true rfl, Nat.le_of_ble_eq_true rfl⟩ rfl (Nat.le_of_ble_eq_true rfl) ⟨Nat.le_of_ble_eq_true rfl, Nat.le_of_ble_eq_true rfl⟩ ?_
          refine v_ifb_eq (tgt := 76) hX dX8_readToken_68 rfl (fun c_68 => ?_) (fun c_68 => ?_)
          · refine v_aload_n hX dX8_readToken_76 rfl ?_
            refine v_aload_n hX dX8_readToken_77 rfl ?_
            refine tv_getI hX dX8_readToken_78 hw 21 (by decide) rfl q1930 ?_
            refine tv_callR hX rfl dX8_readToken_81 q2144 cf_X8_isDigit hw (mX8_isDigit hw _ hvz) rfl ⟨rfl, rfl⟩ ⟨Nat.le_of_ble_eq_true rfl, Nat.le_of_ble_eq_true rfl⟩ rfl (Nat.le_of_ble_eq_true rfl) ⟨Nat.le_of_ble_eq_true rfl, Nat.le_of_ble_eq_true rfl⟩ ?_
            refine v_ifb_eq (tgt := 92) hX dX8_readToken_84 rfl (fun c_84 => ?_) (fun c_84 => ?_)
            · refine v_aload_n hX dX8_readToken_92 rfl ?_
              refine v_aload_n hX dX8_readToken_93 rfl ?_
              refine v_aload_n hX dX8_readToken_94 rfl ?_
              refine tv_getI hX dX8_readToken_95 hw 21 (by decide) rfl q1930 ?_
              refine tv_callR hX rfl dX8_readToken_98 q2130 cf_X8_byteAt hw (mX8_byteAt hw _ hvz) rfl ⟨rfl, rfl⟩ ⟨Nat.le_of_ble_eq_true rfl, Nat.le_of_ble_eq_true rfl⟩ rfl (Nat.le_of_ble_eq_true rfl) ⟨Nat.le_of_ble_eq_true rfl, Nat.le_of_ble_eq_true rfl⟩ ?_
              refine v_bipush hX dX8_readToken_101 lb59 ?_
              refine v_icmp_ne (tgt := 110) hX dX8_readToken_103 rfl (fun c_103 => ?_) (fun c_103 => ?_)
              · refine v_iconst hX dX8_readToken_110 li4 ?_
                refine tv_putI hX dX8_readToken_111 hw 23 (by decide) rfl q1932 rfl (by decide +kernel) (fun w hw => ?_)
                refine v_aload_n hX dX8_readToken_114 rfl ?_
                refine v_dup hX dX8_readToken_115 rfl ?_
                refine tv_getI hX dX8_readToken_116 hw 21 (by decide) rfl q1930 ?_
                refine v_iconst hX dX8_readToken_119 li1 ?_
                refine v_iadd hX dX8_readToken_120 ?_
                refine tv_putI hX dX8_readToken_121 hw 21 (by decide) rfl q1930 rfl (by decide +kernel) (fun w hw => ?_)
                exact v_vret hX dX8_readToken_124 hR (Nat.le_of_ble_eq_true rfl) (Nat.le_of_ble_eq_true rfl) (⟨rfl, hw.to (by first | (rw [tw_tok_eq, tw_skip, ← hz, tw_tk2, if_pos c_51, if_neg c_68, if_neg c_84, if_neg c_103]; done) | (rw [tw_tok_eq, tw_skip, ← hz, tw_tk2, if_pos c_51, if_neg c_68, if_neg c_84, if_neg c_103]; rfl))⟩)
              · refine v_iconst hX dX8_readToken_106 li3 ?_
                refine v_goto (tgt := 111) hX dX8_readToken_107 rfl ?_
                refine tv_putI hX dX8_readToken_111 hw 23 (by decide) rfl q1932 rfl (by decide +kernel) (fun w hw => ?_)
                refine v_aload_n hX dX8_readToken_114 rfl ?_
                refine v_dup hX dX8_readToken_115 rfl ?_
                refine tv_getI hX dX8_readToken_116 hw 21 (by decide) rfl q1930 ?_
                refine v_iconst hX dX8_readToken_119 li1 ?_
                refine v_iadd hX dX8_readToken_120 ?_
                refine tv_putI hX dX8_readToken_121 hw 21 (by decide) rfl q1930 rfl (by decide +kernel) (fun w hw => ?_)
                exact v_vret hX dX8_readToken_124 hR (Nat.le_of_ble_eq_true rfl) (Nat.le_of_ble_eq_true rfl) (⟨rfl, hw.to (by first | (rw [tw_tok_eq, tw_skip, ← hz, tw_tk2, if_pos c_51, if_neg c_68, if_neg c_84, if_pos c_103]; done) | (rw [tw_tok_eq, tw_skip, ← hz, tw_tk2, if_pos c_51, if_neg c_68, if_neg c_84, if_pos c_103]; rfl))⟩)
            · refine v_aload_n hX dX8_readToken_87 rfl ?_
              refine tv_call0 hX rfl dX8_readToken_88 q2148 cf_X8_readNumber hw (mX8_readNumber hw hTz) rfl ⟨rfl, rfl⟩ ⟨Nat.le_of_ble_eq_true rfl, Nat.le_of_ble_eq_true rfl⟩ rfl (Nat.le_of_ble_eq_true rfl) ⟨Nat.le_of_ble_eq_true rfl, Nat.le_of_ble_eq_true rfl⟩ (fun w hw => ?_)
              exact v_vret hX dX8_readToken_91 hR (Nat.le_of_ble_eq_true rfl) (Nat.le_of_ble_eq_true rfl) (⟨rfl, hw.to (by first | (rw [tw_tok_eq, tw_skip, ← hz, tw_tk2, if_pos c_51, if_neg c_68, if_pos c_84]; done) | (rw [tw_tok_eq, tw_skip, ← hz, tw_tk2, if_pos c_51, if_neg c_68, if_pos c_84]; rfl))⟩)
          · refine v_aload_n hX dX8_readToken_71 rfl ?_
            refine tv_call0 hX rfl dX8_readToken_72 q2138 cf_X8_readWord hw (mX8_readWord hw hTz) rfl ⟨rfl, rfl⟩ ⟨Nat.le_of_ble_eq_true rfl, Nat.le_of_ble_eq_true rfl⟩ rfl (Nat.le_of_ble_eq_true rfl) ⟨Nat.le_of_ble_eq_true rfl, Nat.le_of_ble_eq_true rfl⟩ (fun w hw => ?_)
            exact v_vret hX dX8_readToken_75 hR (Nat.le_of_ble_eq_true rfl) (Nat.le_of_ble_eq_true rfl) (⟨rfl, hw.to (by first | (rw [tw_tok_eq, tw_skip, ← hz, tw_tk2, if_pos c_51, if_pos c_68]; done) | (rw [tw_tok_eq, tw_skip, ← hz, tw_tk2, if_pos c_51, if_pos c_68]; rfl))⟩)
        · refine v_aload_n hX dX8_readToken_54 rfl ?_
          refine v_iconst hX dX8_readToken_55 li0 ?_
          refine tv_putI hX dX8_readToken_56 hw 23 (by decide) rfl q1932 rfl (by decide +kernel) (fun w hw => ?_)
          exact v_vret hX dX8_readToken_59 hR (Nat.le_of_ble_eq_true rfl) (Nat.le_of_ble_eq_true rfl) (⟨rfl, hw.to (by first | (rw [tw_tok_eq, tw_skip, ← hz, tw_tk2, if_neg c_51]; done) | (rw [tw_tok_eq, tw_skip, ← hz, tw_tk2, if_neg c_51]; rfl))⟩)
      · refine v_aload_n hX dX8_readToken_22 rfl ?_
        refine v_dup hX dX8_readToken_23 rfl ?_
        refine tv_getI hX dX8_readToken_24 hw 21 (by decide) rfl q1930 ?_
        refine v_iconst hX dX8_readToken_27 li1 ?_
        refine v_iadd hX dX8_readToken_28 ?_
        refine tv_putI hX dX8_readToken_29 hw 21 (by decide) rfl q1930 rfl (by decide +kernel) (fun w hw => ?_)
        refine v_goto (tgt := 0) hX dX8_readToken_32 rfl ?_
        exact absurd ⟨c_8, c_19⟩ hq
  · intro i hi ih w hw
    have ih : ∀ w, tW (xG X) G wB (((fun _ y => tw_adv y)) i ((it ((fun _ y => tw_adv y)) (i) x))) w → V X w 0 0 0 [some (.ref (G 61))] [] := ih
    obtain ⟨a1, a2, a3⟩ := adv sk_adv i x
    have e21 : (it (fun _ y => tw_adv y) i x).1 21 = nI (tp x + i) := by rw [a3, hT.2.2.2, nI_add]
    have hle := (skl_out hT).2
    have hT1 := hT.1
    have hq : (¬ (it (fun _ y => tw_adv y) i x).1 20 ≤ (it (fun _ y => tw_adv y) i x).1 21 ∧ tbla (it (fun _ y => tw_adv y) i x) ((it (fun _ y => tw_adv y) i x).1 21)) := by have q := run_in 701 (tp x) i hi; show _ ∧ (_ ∨ _); rw [tby_k a1 a2, a1, e21]; exact q
    have hv : ¬ (it (fun _ y => tw_adv y) i x).1 20 ≤ (it (fun _ y => tw_adv y) i x).1 21 → vp_in ((it (fun _ y => tw_adv y) i x).1 21) 700 := by rw [a1, e21]; exact tbx hT _ (by omega)
    generalize (it ((fun _ y => tw_adv y)) (i) x) = y at hw ih hq hv a1 a2 a3 e21
    refine v_aload_n hX dX8_readToken_0 rfl ?_
    refine tv_getI hX dX8_readToken_1 hw 21 (by decide) rfl q1930 ?_
    refine v_aload_n hX dX8_readToken_4 rfl ?_
    refine tv_getI hX dX8_readToken_5 hw 20 (by decide) rfl q1929 ?_
    refine v_icmp_ge_f (tgt := 35) hX dX8_readToken_8 rfl (hq.1) ?_
    refine v_aload_n hX dX8_readToken_11 rfl ?_
    refine v_aload_n hX dX8_readToken_12 rfl ?_
    refine tv_getI hX dX8_readToken_13 hw 21 (by decide) rfl q1930 ?_
    refine tv_callR hX rfl dX8_readToken_16 q2126 cf_X8_isBlank hw (mX8_isBlank hw _ hv) rfl ⟨rfl, rfl⟩ ⟨Nat.le_of_ble_eq_true rfl, Nat.le_of_ble_eq_true rfl⟩ rfl (Nat.le_of_ble_eq_true rfl) ⟨Nat.le_of_ble_eq_true rfl, Nat.le_of_ble_eq_true rfl⟩ ?_
    refine v_if_eq_f (tgt := 35) hX dX8_readToken_19 rfl (bi_n0.mpr hq.2) ?_
    refine v_aload_n hX dX8_readToken_22 rfl ?_
    refine v_dup hX dX8_readToken_23 rfl ?_
    refine tv_getI hX dX8_readToken_24 hw 21 (by decide) rfl q1930 ?_
    refine v_iconst hX dX8_readToken_27 li1 ?_
    refine v_iadd hX dX8_readToken_28 ?_
    refine tv_putI hX dX8_readToken_29 hw 21 (by decide) rfl q1930 rfl (by decide +kernel) (fun w hw => ?_)
    refine v_goto (tgt := 0) hX dX8_readToken_32 rfl ?_
    exact ih w hw
theorem cf_X8_isWell : CF RX8 yX8_isWell cX8_isWell 1 (some .boolean) 0 := ⟨q2154, qs49, q150, q2155, by decide +kernel⟩
theorem mX8_isWell {Γ : Gm} {l : Launch} {G : Nat → Nat} {wB : Wd} {x : TS} {w : Wd} (hw : tW Γ G wB x w)  : MRd Γ l yX8_isWell (ws_ yX8_isWell cX8_isWell 1 (some .boolean)) (rl 0 0 0) [.ref (G 61)] w (.int (bi (x.1 26 = -1))) := by
  refine M0.of (lv := [some (.ref (G 61))]) (by decide) (Nat.le_of_ble_eq_true rfl) 0 rfl rfl ?_
  intro X hX hR hl hG hnm
  subst hl; subst hG
  refine v_aload_n hX dX8_isWell_0 rfl ?_
  refine tv_getI hX dX8_isWell_1 hw 26 (by decide) rfl q1935 ?_
  refine v_iconst hX dX8_isWell_4 lim1 ?_
  refine v_icmp_ne (tgt := 12) hX dX8_isWell_5 rfl (fun c_5 => ?_) (fun c_5 => ?_)
  · refine v_iconst hX dX8_isWell_12 li0 ?_
    exact v_zret hX dX8_isWell_13 hR (Nat.le_of_ble_eq_true rfl) (Nat.le_of_ble_eq_true rfl) (rfl) (⟨by simp [bi, *], rfl⟩)
  · refine v_iconst hX dX8_isWell_8 li1 ?_
    refine v_goto (tgt := 13) hX dX8_isWell_9 rfl ?_
    exact v_zret hX dX8_isWell_13 hR (Nat.le_of_ble_eq_true rfl) (Nat.le_of_ble_eq_true rfl) (rfl) (⟨by simp [bi, *], rfl⟩)
def tw_must_d (b : Int32) (x : TS) : TS := if b = 0 then if x.1 26 = -1 then sI x 26 (x.1 22) else x else x
theorem tw_must_ex : ∃ g : Int32 → TS → TS, ∀ b x, g b x = tw_must_d b x := ⟨tw_must_d, fun _ _ => rfl⟩
noncomputable def tw_must : Int32 → TS → TS := Classical.choose tw_must_ex
theorem tw_must_eq (b : Int32) (x : TS) : tw_must b x = if b = 0 then if x.1 26 = -1 then sI x 26 (x.1 22) else x else x := Classical.choose_spec tw_must_ex b x
def tw_go_d (x : TS) : TS := if x.1 26 = -1 then tw_tok x else x
theorem tw_go_ex : ∃ g : TS → TS, ∀ x, g x = tw_go_d x := ⟨tw_go_d, fun _ => rfl⟩
noncomputable def tw_go : TS → TS := Classical.choose tw_go_ex
theorem tw_go_eq (x : TS) : tw_go x = if x.1 26 = -1 then tw_tok x else x := Classical.choose_spec tw_go_ex x
def tw_more (w : Int64) (l : Int32) : Int64 := if l = 0 then w else 32 * w + l.toInt64 - 96
def tw_spell (a b c d e f g : Int32) : Int64 := tw_more (tw_more (tw_more (tw_more (tw_more (tw_more (tw_more 0 a) b) c) d) e) f) g
abbrev tw_is (x : TS) (w : Int64) : Prop := x.1 23 = 1 ∧ x.2.1 25 = w
theorem cf_X8_must : CF RX8 yX8_must cX8_must 2 none 1 := ⟨q2177, qs53, q150, q2178, by decide +kernel⟩
theorem mX8_must {Γ : Gm} {l : Launch} {G : Nat → Nat} {wB : Wd} {x : TS} {w : Wd} (hw : tW Γ G wB x w) (b : Int32) : M0 Γ l yX8_must (ws_ yX8_must cX8_must 2 none) (rl 0 0 0) 0 0 [.ref (G 61), .int b] w (fun r9 w9 => r9 = none ∧ tW Γ G wB (tw_must b x) w9) := by
  refine M0.of (lv := [some (.ref (G 61)), some (.int b)]) (by decide) (Nat.le_of_ble_eq_true rfl) 0 rfl rfl ?_
  intro X hX hR hl hG hnm
  subst hl; subst hG
  refine v_iload_n hX dX8_must_0 rfl ?_
  refine v_if_ne (tgt := 20) hX dX8_must_1 rfl (fun c_1 => ?_) (fun c_1 => ?_)
  · exact v_vret hX dX8_must_20 hR (Nat.le_of_ble_eq_true rfl) (Nat.le_of_ble_eq_true rfl) (⟨rfl, hw.to (by first | (rw [tw_must_eq, if_neg c_1]; done) | (rw [tw_must_eq, if_neg c_1]; rfl))⟩)
  · refine v_aload_n hX dX8_must_4 rfl ?_
    refine tv_getI hX dX8_must_5 hw 26 (by decide) rfl q1935 ?_
    refine v_iconst hX dX8_must_8 lim1 ?_
    refine v_icmp_ne (tgt := 20) hX dX8_must_9 rfl (fun c_9 => ?_) (fun c_9 => ?_)
    · exact v_vret hX dX8_must_20 hR (Nat.le_of_ble_eq_true rfl) (Nat.le_of_ble_eq_true rfl) (⟨rfl, hw.to (by first | (rw [tw_must_eq, if_pos c_1, if_neg c_9]; done) | (rw [tw_must_eq, if_pos c_1, if_neg c_9]; rfl))⟩)
    · refine v_aload_n hX dX8_must_12 rfl ?_
      refine v_aload_n hX dX8_must_13 rfl ?_
      refine tv_getI hX dX8_must_14 hw 22 (by decide) rfl q1931 ?_
      refine tv_putI hX dX8_must_17 hw 26 (by decide) rfl q1935 rfl (by decide +kernel) (fun w hw => ?_)
      exact v_vret hX dX8_must_20 hR (Nat.le_of_ble_eq_true rfl) (Nat.le_of_ble_eq_true rfl) (⟨rfl, hw.to (by first | (rw [tw_must_eq, if_pos c_1, if_pos c_9]; done) | (rw [tw_must_eq, if_pos c_1, if_pos c_9]; rfl))⟩)
theorem cf_X8_goesOn : CF RX8 yX8_goesOn cX8_goesOn 1 none 0 := ⟨q2181, qs54, q150, q2182, by decide +kernel⟩
theorem mX8_goesOn {Γ : Gm} {l : Launch} {G : Nat → Nat} {wB : Wd} {x : TS} {w : Wd} (hw : tW Γ G wB x w) (hT : tX x) : M0 Γ l yX8_goesOn (ws_ yX8_goesOn cX8_goesOn 1 none) (rl 4 0 0) 0 0 [.ref (G 61)] w (fun r9 w9 => r9 = none ∧ tW Γ G wB (tw_go x) w9) := by
  refine M0.of (lv := [some (.ref (G 61))]) (by decide) (Nat.le_of_ble_eq_true rfl) 0 rfl rfl ?_
  intro X hX hR hl hG hnm
  subst hl; subst hG
  refine v_aload_n hX dX8_goesOn_0 rfl ?_
  refine tv_callR hX rfl dX8_goesOn_1 q2152 cf_X8_isWell hw (mX8_isWell hw) rfl ⟨rfl, rfl⟩ ⟨Nat.le_of_ble_eq_true rfl, Nat.le_of_ble_eq_true rfl⟩ rfl (Nat.le_of_ble_eq_true rfl) ⟨Nat.le_of_ble_eq_true rfl, Nat.le_of_ble_eq_true rfl⟩ ?_
  refine v_ifb_eq (tgt := 11) hX dX8_goesOn_4 rfl (fun c_4 => ?_) (fun c_4 => ?_)
  · exact v_vret hX dX8_goesOn_11 hR (Nat.le_of_ble_eq_true rfl) (Nat.le_of_ble_eq_true rfl) (⟨rfl, hw.to (by first | (rw [tw_go_eq, if_neg c_4]; done) | (rw [tw_go_eq, if_neg c_4]; rfl))⟩)
  · refine v_aload_n hX dX8_goesOn_7 rfl ?_
    refine tv_call0 hX rfl dX8_goesOn_8 q2122 cf_X8_readToken hw (mX8_readToken hw hT) rfl ⟨rfl, rfl⟩ ⟨Nat.le_of_ble_eq_true rfl, Nat.le_of_ble_eq_true rfl⟩ rfl (Nat.le_of_ble_eq_true rfl) ⟨Nat.le_of_ble_eq_true rfl, Nat.le_of_ble_eq_true rfl⟩ (fun w hw => ?_)
    exact v_vret hX dX8_goesOn_11 hR (Nat.le_of_ble_eq_true rfl) (Nat.le_of_ble_eq_true rfl) (⟨rfl, hw.to (by first | (rw [tw_go_eq, if_pos c_4]; done) | (rw [tw_go_eq, if_pos c_4]; rfl))⟩)
theorem cs_X8_more : CS yX8_more cX8_more 3 (some .long) 2 := ⟨q2164, q150, q2165, by decide +kernel⟩
theorem mX8_more {Γ : Gm} {l : Launch} {w : Wd} (w9 : Int64) (b : Int32) : MRd Γ l yX8_more (ws_ yX8_more cX8_more 3 (some .long)) (rl 0 0 0) [.long w9, .int b] w (.long (tw_more w9 b)) := by
  refine M0.of (lv := [some (.long w9), none, some (.int b)]) (by decide) (Nat.le_of_ble_eq_true rfl) 0 rfl rfl ?_
  intro X hX hR hl hG hnm
  subst hl; subst hG
  refine v_iload_n hX dX8_more_0 rfl ?_
  refine v_if_ne (tgt := 8) hX dX8_more_1 rfl (fun c_1 => ?_) (fun c_1 => ?_)
  · refine v_ldc2 hX dX8_more_8 q2142 ?_
    refine v_lload_n hX dX8_more_11 rfl ?_
    refine v_lmul hX dX8_more_12 ?_
    refine v_iload_n hX dX8_more_13 rfl ?_
    refine v_i2l hX dX8_more_14 ?_
    refine v_ladd hX dX8_more_15 ?_
    refine v_ldc2 hX dX8_more_16 q2166 ?_
    refine v_lsub hX dX8_more_19 ?_
    exact v_lret hX dX8_more_20 hR (Nat.le_of_ble_eq_true rfl) (Nat.le_of_ble_eq_true rfl) (⟨congrArg (fun z => some (Value.long z)) (Eq.symm (by first | (rw [tw_more, if_neg c_1]; done) | (rw [tw_more, if_neg c_1]; rfl))), rfl⟩)
  · refine v_lload_n hX dX8_more_4 rfl ?_
    refine v_goto (tgt := 20) hX dX8_more_5 rfl ?_
    exact v_lret hX dX8_more_20 hR (Nat.le_of_ble_eq_true rfl) (Nat.le_of_ble_eq_true rfl) (⟨congrArg (fun z => some (Value.long z)) (Eq.symm (by first | (rw [tw_more, if_pos c_1]; done) | (rw [tw_more, if_pos c_1]; rfl))), rfl⟩)
theorem cs_X8_spelled : CS yX8_spelled cX8_spelled 9 (some .long) 7 := ⟨q2161, q150, q2162, by decide +kernel⟩
theorem mX8_spelled {Γ : Gm} {l : Launch} {w : Wd} (a b c d e f g : Int32) : MRd Γ l yX8_spelled (ws_ yX8_spelled cX8_spelled 9 (some .long)) (rl 1 0 0) [.int a, .int b, .int c, .int d, .int e, .int f, .int g] w (.long (tw_spell a b c d e f g)) := by
  refine M0.of (lv := [some (.int a), some (.int b), some (.int c), some (.int d), some (.int e), some (.int f), some (.int g), none, none]) (by decide) (Nat.le_of_ble_eq_true rfl) 2 rfl rfl ?_
  intro X hX hR hl hG hnm
  subst hl; subst hG
  refine v_lconst hX dX8_spelled_0 rfl ?_
  refine v_iload_n hX dX8_spelled_1 rfl ?_
  refine v_callSr hX rfl dX8_spelled_2 q2163 cs_X8_more (mX8_more _ _) rfl ⟨rfl, rfl⟩ ⟨Nat.le_of_ble_eq_true rfl, Nat.le_of_ble_eq_true rfl⟩ rfl (Nat.le_of_ble_eq_true rfl) ⟨Nat.le_of_ble_eq_true rfl, Nat.le_of_ble_eq_true rfl⟩ ?_
  refine v_iload_n hX dX8_spelled_5 rfl ?_
  refine v_callSr hX rfl dX8_spelled_6 q2163 cs_X8_more (mX8_more _ _) rfl ⟨rfl, rfl⟩ ⟨Nat.le_of_ble_eq_true rfl, Nat.le_of_ble_eq_true rfl⟩ rfl (Nat.le_of_ble_eq_true rfl) ⟨Nat.le_of_ble_eq_true rfl, Nat.le_of_ble_eq_true rfl⟩ ?_
  refine v_iload_n hX dX8_spelled_9 rfl ?_
  refine v_callSr hX rfl dX8_spelled_10 q2163 cs_X8_more (mX8_more _ _) rfl ⟨rfl, rfl⟩ ⟨Nat.le_of_ble_eq_true rfl, Nat.le_of_ble_eq_true rfl⟩ rfl (Nat.le_of_ble_eq_true rfl) ⟨Nat.le_of_ble_eq_true rfl, Nat.le_of_ble_eq_true rfl⟩ ?_
  refine v_iload_n hX dX8_spelled_13 rfl ?_
  refine v_callSr hX rfl dX8_spelled_14 q2163 cs_X8_more (mX8_more _ _) rfl ⟨rfl, rfl⟩ ⟨Nat.le_of_ble_eq_true rfl, Nat.le_of_ble_eq_true rfl⟩ rfl (Nat.le_of_ble_eq_true rfl) ⟨Nat.le_of_ble_eq_true rfl, Nat.le_of_ble_eq_true rfl⟩ ?_
  refine v_lstore (lv' := [_, _, _, _, _, _, _, _, _]) hX dX8_spelled_17 (Nat.le_of_ble_eq_true rfl) rfl rfl ?_
  refine v_lload hX dX8_spelled_19 rfl ?_
  refine v_iload hX dX8_spelled_21 rfl ?_
  refine v_callSr hX rfl dX8_spelled_23 q2163 cs_X8_more (mX8_more _ _) rfl ⟨rfl, rfl⟩ ⟨Nat.le_of_ble_eq_true rfl, Nat.le_of_ble_eq_true rfl⟩ rfl (Nat.le_of_ble_eq_true rfl) ⟨Nat.le_of_ble_eq_true rfl, Nat.le_of_ble_eq_true rfl⟩ ?_
  refine v_iload hX dX8_spelled_26 rfl ?_
  refine v_callSr hX rfl dX8_spelled_28 q2163 cs_X8_more (mX8_more _ _) rfl ⟨rfl, rfl⟩ ⟨Nat.le_of_ble_eq_true rfl, Nat.le_of_ble_eq_true rfl⟩ rfl (Nat.le_of_ble_eq_true rfl) ⟨Nat.le_of_ble_eq_true rfl, Nat.le_of_ble_eq_true rfl⟩ ?_
  refine v_iload hX dX8_spelled_31 rfl ?_
  refine v_callSr hX rfl dX8_spelled_33 q2163 cs_X8_more (mX8_more _ _) rfl ⟨rfl, rfl⟩ ⟨Nat.le_of_ble_eq_true rfl, Nat.le_of_ble_eq_true rfl⟩ rfl (Nat.le_of_ble_eq_true rfl) ⟨Nat.le_of_ble_eq_true rfl, Nat.le_of_ble_eq_true rfl⟩ ?_
  exact v_lret hX dX8_spelled_36 hR (Nat.le_of_ble_eq_true rfl) (Nat.le_of_ble_eq_true rfl) (⟨rfl, rfl⟩)
theorem cf_X8_isWord : CF RX8 yX8_isWord cX8_isWord 3 (some .boolean) 1 := ⟨q2169, qs51, q150, q2170, by decide +kernel⟩
theorem mX8_isWord {Γ : Gm} {l : Launch} {G : Nat → Nat} {wB : Wd} {x : TS} {w : Wd} (hw : tW Γ G wB x w) (w9 : Int64) : MRd Γ l yX8_isWord (ws_ yX8_isWord cX8_isWord 3 (some .boolean)) (rl 0 0 0) [.ref (G 61), .long w9] w (.int (bi (tw_is x w9))) := by
  refine M0.of (lv := [some (.ref (G 61)), some (.long w9), none]) (by decide) (Nat.le_of_ble_eq_true rfl) 0 rfl rfl ?_
  intro X hX hR hl hG hnm
  subst hl; subst hG
  refine v_aload_n hX dX8_isWord_0 rfl ?_
  refine tv_getI hX dX8_isWord_1 hw 23 (by decide) rfl q1932 ?_
  refine v_iconst hX dX8_isWord_4 li1 ?_
  refine v_icmp_ne (tgt := 21) hX dX8_isWord_5 rfl (fun c_5 => ?_) (fun c_5 => ?_)
  · refine v_iconst hX dX8_isWord_21 li0 ?_
    exact v_zret hX dX8_isWord_22 hR (Nat.le_of_ble_eq_true rfl) (Nat.le_of_ble_eq_true rfl) (rfl) (⟨by simp [bi, tw_is, *], rfl⟩)
  · refine v_aload_n hX dX8_isWord_8 rfl ?_
    refine tv_getL hX dX8_isWord_9 hw 25 (by decide) rfl q1934 ?_
    refine v_lload_n hX dX8_isWord_12 rfl ?_
    refine v_lcmp hX dX8_isWord_13 ?_
    refine v_ifl_ne (tgt := 21) hX dX8_isWord_14 rfl (fun c_14 => ?_) (fun c_14 => ?_)
    · refine v_iconst hX dX8_isWord_21 li0 ?_
      exact v_zret hX dX8_isWord_22 hR (Nat.le_of_ble_eq_true rfl) (Nat.le_of_ble_eq_true rfl) (rfl) (⟨by simp [bi, tw_is, *], rfl⟩)
    · refine v_iconst hX dX8_isWord_17 li1 ?_
      refine v_goto (tgt := 22) hX dX8_isWord_18 rfl ?_
      exact v_zret hX dX8_isWord_22 hR (Nat.le_of_ble_eq_true rfl) (Nat.le_of_ble_eq_true rfl) (rfl) (⟨by simp [bi, tw_is, *], rfl⟩)
def tw_setH (x : TS) : Int32 := if tw_is x (tw_spell 109 105 120 101 114 115 0) then 0 else if tw_is x (tw_spell 100 101 99 107 115 0 0) then 1 else if tw_is x (tw_spell 115 104 101 108 118 101 115) then 2 else if tw_is x (tw_spell 99 108 101 97 110 0 0) then 3 else if tw_is x (tw_spell 115 108 111 119 0 0 0) then 4 else if tw_is x (tw_spell 114 97 116 101 0 0 0) then 5 else if tw_is x (tw_spell 99 111 111 108 0 0 0) then 6 else -1
def tw_polH (x : TS) : Int32 := if tw_is x (tw_spell 111 114 100 101 114 0 0) then 0 else if tw_is x (tw_spell 117 114 103 101 110 116 0) then 1 else if tw_is x (tw_spell 119 97 118 101 0 0 0) then 2 else -1
theorem cf_X8_settingHere : CF RX8 yX8_settingHere cX8_settingHere 1 (some .int) 0 := ⟨q2213, qs62, q150, q2214, by decide +kernel⟩
theorem mX8_settingHere {Γ : Gm} {l : Launch} {G : Nat → Nat} {wB : Wd} {x : TS} {w : Wd} (hw : tW Γ G wB x w)  : MRd Γ l yX8_settingHere (ws_ yX8_settingHere cX8_settingHere 1 (some .int)) (rl 2 0 0) [.ref (G 61)] w (.int (tw_setH x)) := by
  refine M0.of (lv := [some (.ref (G 61))]) (by decide) (Nat.le_of_ble_eq_true rfl) 0 rfl rfl ?_
  intro X hX hR hl hG hnm
  subst hl; subst hG
  refine v_aload_n hX dX8_settingHere_0 rfl ?_
  refine v_bipush hX dX8_settingHere_1 lb109 ?_
  refine v_bipush hX dX8_settingHere_3 lb105 ?_
  refine v_bipush hX dX8_settingHere_5 lb120 ?_
  refine v_bipush hX dX8_settingHere_7 lb101 ?_
  refine v_bipush hX dX8_settingHere_9 lb114 ?_
  refine v_bipush hX dX8_settingHere_11 lb115 ?_
  refine v_iconst hX dX8_settingHere_13 li0 ?_
  refine v_callSr hX rfl dX8_settingHere_14 q2160 cs_X8_spelled (mX8_spelled _ _ _ _ _ _ _) rfl ⟨rfl, rfl⟩ ⟨Nat.le_of_ble_eq_true rfl, Nat.le_of_ble_eq_true rfl⟩ rfl (Nat.le_of_ble_eq_true rfl) ⟨Nat.le_of_ble_eq_true rfl, Nat.le_of_ble_eq_true rfl⟩ ?_
  refine tv_callR hX rfl dX8_settingHere_17 q2167 cf_X8_isWord hw (mX8_isWord hw _) rfl ⟨rfl, rfl⟩ ⟨Nat.le_of_ble_eq_true rfl, Nat.le_of_ble_eq_true rfl⟩ rfl (Nat.le_of_ble_eq_true rfl) ⟨Nat.le_of_ble_eq_true rfl, Nat.le_of_ble_eq_true rfl⟩ ?_
  refine v_ifb_eq (tgt := 25) hX dX8_settingHere_20 rfl (fun c_20 => ?_) (fun c_20 => ?_)
  · refine v_aload_n hX dX8_settingHere_25 rfl ?_
    refine v_bipush hX dX8_settingHere_26 lb100 ?_
    refine v_bipush hX dX8_settingHere_28 lb101 ?_
    refine v_bipush hX dX8_settingHere_30 lb99 ?_
    refine v_bipush hX dX8_settingHere_32 lb107 ?_
    refine v_bipush hX dX8_settingHere_34 lb115 ?_
    refine v_iconst hX dX8_settingHere_36 li0 ?_
    refine v_iconst hX dX8_settingHere_37 li0 ?_
    refine v_callSr hX rfl dX8_settingHere_38 q2160 cs_X8_spelled (mX8_spelled _ _ _ _ _ _ _) rfl ⟨rfl, rfl⟩ ⟨Nat.le_of_ble_eq_true rfl, Nat.le_of_ble_eq_true rfl⟩ rfl (Nat.le_of_ble_eq_true rfl) ⟨Nat.le_of_ble_eq_true rfl, Nat.le_of_ble_eq_true rfl⟩ ?_
    refine tv_callR hX rfl dX8_settingHere_41 q2167 cf_X8_isWord hw (mX8_isWord hw _) rfl ⟨rfl, rfl⟩ ⟨Nat.le_of_ble_eq_true rfl, Nat.le_of_ble_eq_true rfl⟩ rfl (Nat.le_of_ble_eq_true rfl) ⟨Nat.le_of_ble_eq_true rfl, Nat.le_of_ble_eq_true rfl⟩ ?_
    refine v_ifb_eq (tgt := 49) hX dX8_settingHere_44 rfl (fun c_44 => ?_) (fun c_44 => ?_)
    · refine v_aload_n hX dX8_settingHere_49 rfl ?_
      refine v_bipush hX dX8_settingHere_50 lb115 ?_
      refine v_bipush hX dX8_settingHere_52 lb104 ?_
      refine v_bipush hX dX8_settingHere_54 lb101 ?_
      refine v_bipush hX dX8_settingHere_56 lb108 ?_
      refine v_bipush hX dX8_settingHere_58 lb118 ?_
      refine v_bipush hX dX8_settingHere_60 lb101 ?_
      refine v_bipush hX dX8_settingHere_62 lb115 ?_
      refine v_callSr hX rfl dX8_settingHere_64 q2160 cs_X8_spelled (mX8_spelled _ _ _ _ _ _ _) rfl ⟨rfl, rfl⟩ ⟨Nat.le_of_ble_eq_true rfl, Nat.le_of_ble_eq_true rfl⟩ rfl (Nat.le_of_ble_eq_true rfl) ⟨Nat.le_of_ble_eq_true rfl, Nat.le_of_ble_eq_true rfl⟩ ?_
      refine tv_callR hX rfl dX8_settingHere_67 q2167 cf_X8_isWord hw (mX8_isWord hw _) rfl ⟨rfl, rfl⟩ ⟨Nat.le_of_ble_eq_true rfl, Nat.le_of_ble_eq_true rfl⟩ rfl (Nat.le_of_ble_eq_true rfl) ⟨Nat.le_of_ble_eq_true rfl, Nat.le_of_ble_eq_true rfl⟩ ?_
      refine v_ifb_eq (tgt := 75) hX dX8_settingHere_70 rfl (fun c_70 => ?_) (fun c_70 => ?_)
      · refine v_aload_n hX dX8_settingHere_75 rfl ?_
        refine v_bipush hX dX8_settingHere_76 lb99 ?_
        refine v_bipush hX dX8_settingHere_78 lb108 ?_
        refine v_bipush hX dX8_settingHere_80 lb101 ?_
        refine v_bipush hX dX8_settingHere_82 lb97 ?_
        refine v_bipush hX dX8_settingHere_84 lb110 ?_
        refine v_iconst hX dX8_settingHere_86 li0 ?_
        refine v_iconst hX dX8_settingHere_87 li0 ?_
        refine v_callSr hX rfl dX8_settingHere_88 q2160 cs_X8_spelled (mX8_spelled _ _ _ _ _ _ _) rfl ⟨rfl, rfl⟩ ⟨Nat.le_of_ble_eq_true rfl, Nat.le_of_ble_eq_true rfl⟩ rfl (Nat.le_of_ble_eq_true rfl) ⟨Nat.le_of_ble_eq_true rfl, Nat.le_of_ble_eq_true rfl⟩ ?_
        refine tv_callR hX rfl dX8_settingHere_91 q2167 cf_X8_isWord hw (mX8_isWord hw _) rfl ⟨rfl, rfl⟩ ⟨Nat.le_of_ble_eq_true rfl, Nat.le_of_ble_eq_true rfl⟩ rfl (Nat.le_of_ble_eq_true rfl) ⟨Nat.le_of_ble_eq_true rfl, Nat.le_of_ble_eq_true rfl⟩ ?_
        refine v_ifb_eq (tgt := 99) hX dX8_settingHere_94 rfl (fun c_94 => ?_) (fun c_94 => ?_)
        · refine v_aload_n hX dX8_settingHere_99 rfl ?_
          refine v_bipush hX dX8_settingHere_100 lb115 ?_
          refine v_bipush hX dX8_settingHere_102 lb108 ?_
          refine v_bipush hX dX8_settingHere_104 lb111 ?_
          refine v_bipush hX dX8_settingHere_106 lb119 ?_
          refine v_iconst hX dX8_settingHere_108 li0 ?_
          refine v_iconst hX dX8_settingHere_109 li0 ?_
          refine v_iconst hX dX8_settingHere_110 li0 ?_
          refine v_callSr hX rfl dX8_settingHere_111 q2160 cs_X8_spelled (mX8_spelled _ _ _ _ _ _ _) rfl ⟨rfl, rfl⟩ ⟨Nat.le_of_ble_eq_true rfl, Nat.le_of_ble_eq_true rfl⟩ rfl (Nat.le_of_ble_eq_true rfl) ⟨Nat.le_of_ble_eq_true rfl, Nat.le_of_ble_eq_true rfl⟩ ?_
          refine tv_callR hX rfl dX8_settingHere_114 q2167 cf_X8_isWord hw (mX8_isWord hw _) rfl ⟨rfl, rfl⟩ ⟨Nat.le_of_ble_eq_true rfl, Nat.le_of_ble_eq_true rfl⟩ rfl (Nat.le_of_ble_eq_true rfl) ⟨Nat.le_of_ble_eq_true rfl, Nat.le_of_ble_eq_true rfl⟩ ?_
          refine v_ifb_eq (tgt := 122) hX dX8_settingHere_117 rfl (fun c_117 => ?_) (fun c_117 => ?_)
          · refine v_aload_n hX dX8_settingHere_122 rfl ?_
            refine v_bipush hX dX8_settingHere_123 lb114 ?_
            refine v_bipush hX dX8_settingHere_125 lb97 ?_
            refine v_bipush hX dX8_settingHere_127 lb116 ?_
            refine v_bipush hX dX8_settingHere_129 lb101 ?_
            refine v_iconst hX dX8_settingHere_131 li0 ?_
            refine v_iconst hX dX8_settingHere_132 li0 ?_
            refine v_iconst hX dX8_settingHere_133 li0 ?_
            refine v_callSr hX rfl dX8_settingHere_134 q2160 cs_X8_spelled (mX8_spelled _ _ _ _ _ _ _) rfl ⟨rfl, rfl⟩ ⟨Nat.le_of_ble_eq_true rfl, Nat.le_of_ble_eq_true rfl⟩ rfl (Nat.le_of_ble_eq_true rfl) ⟨Nat.le_of_ble_eq_true rfl, Nat.le_of_ble_eq_true rfl⟩ ?_
            refine tv_callR hX rfl dX8_settingHere_137 q2167 cf_X8_isWord hw (mX8_isWord hw _) rfl ⟨rfl, rfl⟩ ⟨Nat.le_of_ble_eq_true rfl, Nat.le_of_ble_eq_true rfl⟩ rfl (Nat.le_of_ble_eq_true rfl) ⟨Nat.le_of_ble_eq_true rfl, Nat.le_of_ble_eq_true rfl⟩ ?_
            refine v_ifb_eq (tgt := 145) hX dX8_settingHere_140 rfl (fun c_140 => ?_) (fun c_140 => ?_)
            · refine v_aload_n hX dX8_settingHere_145 rfl ?_
              refine v_bipush hX dX8_settingHere_146 lb99 ?_
              refine v_bipush hX dX8_settingHere_148 lb111 ?_
              refine v_bipush hX dX8_settingHere_150 lb111 ?_
              refine v_bipush hX dX8_settingHere_152 lb108 ?_
              refine v_iconst hX dX8_settingHere_154 li0 ?_
              refine v_iconst hX dX8_settingHere_155 li0 ?_
              refine v_iconst hX dX8_settingHere_156 li0 ?_
              refine v_callSr hX rfl dX8_settingHere_157 q2160 cs_X8_spelled (mX8_spelled _ _ _ _ _ _ _) rfl ⟨rfl, rfl⟩ ⟨Nat.le_of_ble_eq_true rfl, Nat.le_of_ble_eq_true rfl⟩ rfl (Nat.le_of_ble_eq_true rfl) ⟨Nat.le_of_ble_eq_true rfl, Nat.le_of_ble_eq_true rfl⟩ ?_
              refine tv_callR hX rfl dX8_settingHere_160 q2167 cf_X8_isWord hw (mX8_isWord hw _) rfl ⟨rfl, rfl⟩ ⟨Nat.le_of_ble_eq_true rfl, Nat.le_of_ble_eq_true rfl⟩ rfl (Nat.le_of_ble_eq_true rfl) ⟨Nat.le_of_ble_eq_true rfl, Nat.le_of_ble_eq_true rfl⟩ ?_
              refine v_ifb_eq (tgt := 171) hX dX8_settingHere_163 rfl (fun c_163 => ?_) (fun c_163 => ?_)
              · refine v_iconst hX dX8_settingHere_171 lim1 ?_
                exact v_iret hX dX8_settingHere_172 hR (Nat.le_of_ble_eq_true rfl) (Nat.le_of_ble_eq_true rfl) (⟨congrArg (fun z => some (Value.int z)) (Eq.symm (by first | (rw [tw_setH, if_neg c_20, if_neg c_44, if_neg c_70, if_neg c_94, if_neg c_117, if_neg c_140, if_neg c_163]; done) | (rw [tw_setH, if_neg c_20, if_neg c_44, if_neg c_70, if_neg c_94, if_neg c_117, if_neg c_140, if_neg c_163]; rfl))), rfl⟩)
              · refine v_bipush hX dX8_settingHere_166 lb6 ?_
                refine v_goto (tgt := 172) hX dX8_settingHere_168 rfl ?_
                exact v_iret hX dX8_settingHere_172 hR (Nat.le_of_ble_eq_true rfl) (Nat.le_of_ble_eq_true rfl) (⟨congrArg (fun z => some (Value.int z)) (Eq.symm (by first | (rw [tw_setH, if_neg c_20, if_neg c_44, if_neg c_70, if_neg c_94, if_neg c_117, if_neg c_140, if_pos c_163]; done) | (rw [tw_setH, if_neg c_20, if_neg c_44, if_neg c_70, if_neg c_94, if_neg c_117, if_neg c_140, if_pos c_163]; rfl))), rfl⟩)
            · refine v_iconst hX dX8_settingHere_143 li5 ?_
              exact v_iret hX dX8_settingHere_144 hR (Nat.le_of_ble_eq_true rfl) (Nat.le_of_ble_eq_true rfl) (⟨congrArg (fun z => some (Value.int z)) (Eq.symm (by first | (rw [tw_setH, if_neg c_20, if_neg c_44, if_neg c_70, if_neg c_94, if_neg c_117, if_pos c_140]; done) | (rw [tw_setH, if_neg c_20, if_neg c_44, if_neg c_70, if_neg c_94, if_neg c_117, if_pos c_140]; rfl))), rfl⟩)
          · refine v_iconst hX dX8_settingHere_120 li4 ?_
            exact v_iret hX dX8_settingHere_121 hR (Nat.le_of_ble_eq_true rfl) (Nat.le_of_ble_eq_true rfl) (⟨congrArg (fun z => some (Value.int z)) (Eq.symm (by first | (rw [tw_setH, if_neg c_20, if_neg c_44, if_neg c_70, if_neg c_94, if_pos c_117]; done) | (rw [tw_setH, if_neg c_20, if_neg c_44, if_neg c_70, if_neg c_94, if_pos c_117]; rfl))), rfl⟩)
        · refine v_iconst hX dX8_settingHere_97 li3 ?_
          exact v_iret hX dX8_settingHere_98 hR (Nat.le_of_ble_eq_true rfl) (Nat.le_of_ble_eq_true rfl) (⟨congrArg (fun z => some (Value.int z)) (Eq.symm (by first | (rw [tw_setH, if_neg c_20, if_neg c_44, if_neg c_70, if_pos c_94]; done) | (rw [tw_setH, if_neg c_20, if_neg c_44, if_neg c_70, if_pos c_94]; rfl))), rfl⟩)
      · refine v_iconst hX dX8_settingHere_73 li2 ?_
        exact v_iret hX dX8_settingHere_74 hR (Nat.le_of_ble_eq_true rfl) (Nat.le_of_ble_eq_true rfl) (⟨congrArg (fun z => some (Value.int z)) (Eq.symm (by first | (rw [tw_setH, if_neg c_20, if_neg c_44, if_pos c_70]; done) | (rw [tw_setH, if_neg c_20, if_neg c_44, if_pos c_70]; rfl))), rfl⟩)
    · refine v_iconst hX dX8_settingHere_47 li1 ?_
      exact v_iret hX dX8_settingHere_48 hR (Nat.le_of_ble_eq_true rfl) (Nat.le_of_ble_eq_true rfl) (⟨congrArg (fun z => some (Value.int z)) (Eq.symm (by first | (rw [tw_setH, if_neg c_20, if_pos c_44]; done) | (rw [tw_setH, if_neg c_20, if_pos c_44]; rfl))), rfl⟩)
  · refine v_iconst hX dX8_settingHere_23 li0 ?_
    exact v_iret hX dX8_settingHere_24 hR (Nat.le_of_ble_eq_true rfl) (Nat.le_of_ble_eq_true rfl) (⟨congrArg (fun z => some (Value.int z)) (Eq.symm (by first | (rw [tw_setH, if_pos c_20]; done) | (rw [tw_setH, if_pos c_20]; rfl))), rfl⟩)
theorem cf_X8_isWaveWord : CF RX8 yX8_isWaveWord cX8_isWaveWord 1 (some .boolean) 0 := ⟨q2193, qs57, q150, q2194, by decide +kernel⟩
theorem mX8_isWaveWord {Γ : Gm} {l : Launch} {G : Nat → Nat} {wB : Wd} {x : TS} {w : Wd} (hw : tW Γ G wB x w)  : MRd Γ l yX8_isWaveWord (ws_ yX8_isWaveWord cX8_isWaveWord 1 (some .boolean)) (rl 2 0 0) [.ref (G 61)] w (.int (bi (tw_is x (tw_spell 119 97 118 101 0 0 0)))) := by
  refine M0.of (lv := [some (.ref (G 61))]) (by decide) (Nat.le_of_ble_eq_true rfl) 0 rfl rfl ?_
  intro X hX hR hl hG hnm
  subst hl; subst hG
  refine v_aload_n hX dX8_isWaveWord_0 rfl ?_
  refine v_bipush hX dX8_isWaveWord_1 lb119 ?_
  refine v_bipush hX dX8_isWaveWord_3 lb97 ?_
  refine v_bipush hX dX8_isWaveWord_5 lb118 ?_
  refine v_bipush hX dX8_isWaveWord_7 lb101 ?_
  refine v_iconst hX dX8_isWaveWord_9 li0 ?_
  refine v_iconst hX dX8_isWaveWord_10 li0 ?_
  refine v_iconst hX dX8_isWaveWord_11 li0 ?_
  refine v_callSr hX rfl dX8_isWaveWord_12 q2160 cs_X8_spelled (mX8_spelled _ _ _ _ _ _ _) rfl ⟨rfl, rfl⟩ ⟨Nat.le_of_ble_eq_true rfl, Nat.le_of_ble_eq_true rfl⟩ rfl (Nat.le_of_ble_eq_true rfl) ⟨Nat.le_of_ble_eq_true rfl, Nat.le_of_ble_eq_true rfl⟩ ?_
  refine tv_callR hX rfl dX8_isWaveWord_15 q2167 cf_X8_isWord hw (mX8_isWord hw _) rfl ⟨rfl, rfl⟩ ⟨Nat.le_of_ble_eq_true rfl, Nat.le_of_ble_eq_true rfl⟩ rfl (Nat.le_of_ble_eq_true rfl) ⟨Nat.le_of_ble_eq_true rfl, Nat.le_of_ble_eq_true rfl⟩ ?_
  exact v_zret hX dX8_isWaveWord_18 hR (Nat.le_of_ble_eq_true rfl) (Nat.le_of_ble_eq_true rfl) (bi_nar) (⟨rfl, rfl⟩)
theorem cf_X8_policyHere : CF RX8 yX8_policyHere cX8_policyHere 1 (some .int) 0 := ⟨q2209, qs61, q150, q2210, by decide +kernel⟩
theorem mX8_policyHere {Γ : Gm} {l : Launch} {G : Nat → Nat} {wB : Wd} {x : TS} {w : Wd} (hw : tW Γ G wB x w)  : MRd Γ l yX8_policyHere (ws_ yX8_policyHere cX8_policyHere 1 (some .int)) (rl 3 0 0) [.ref (G 61)] w (.int (tw_polH x)) := by
  refine M0.of (lv := [some (.ref (G 61))]) (by decide) (Nat.le_of_ble_eq_true rfl) 0 rfl rfl ?_
  intro X hX hR hl hG hnm
  subst hl; subst hG
  refine v_aload_n hX dX8_policyHere_0 rfl ?_
  refine v_bipush hX dX8_policyHere_1 lb111 ?_
  refine v_bipush hX dX8_policyHere_3 lb114 ?_
  refine v_bipush hX dX8_policyHere_5 lb100 ?_
  refine v_bipush hX dX8_policyHere_7 lb101 ?_
  refine v_bipush hX dX8_policyHere_9 lb114 ?_
  refine v_iconst hX dX8_policyHere_11 li0 ?_
  refine v_iconst hX dX8_policyHere_12 li0 ?_
  refine v_callSr hX rfl dX8_policyHere_13 q2160 cs_X8_spelled (mX8_spelled _ _ _ _ _ _ _) rfl ⟨rfl, rfl⟩ ⟨Nat.le_of_ble_eq_true rfl, Nat.le_of_ble_eq_true rfl⟩ rfl (Nat.le_of_ble_eq_true rfl) ⟨Nat.le_of_ble_eq_true rfl, Nat.le_of_ble_eq_true rfl⟩ ?_
  refine tv_callR hX rfl dX8_policyHere_16 q2167 cf_X8_isWord hw (mX8_isWord hw _) rfl ⟨rfl, rfl⟩ ⟨Nat.le_of_ble_eq_true rfl, Nat.le_of_ble_eq_true rfl⟩ rfl (Nat.le_of_ble_eq_true rfl) ⟨Nat.le_of_ble_eq_true rfl, Nat.le_of_ble_eq_true rfl⟩ ?_
  refine v_ifb_eq (tgt := 24) hX dX8_policyHere_19 rfl (fun c_19 => ?_) (fun c_19 => ?_)
  · refine v_aload_n hX dX8_policyHere_24 rfl ?_
    refine v_bipush hX dX8_policyHere_25 lb117 ?_
    refine v_bipush hX dX8_policyHere_27 lb114 ?_
    refine v_bipush hX dX8_policyHere_29 lb103 ?_
    refine v_bipush hX dX8_policyHere_31 lb101 ?_
    refine v_bipush hX dX8_policyHere_33 lb110 ?_
    refine v_bipush hX dX8_policyHere_35 lb116 ?_
    refine v_iconst hX dX8_policyHere_37 li0 ?_
    refine v_callSr hX rfl dX8_policyHere_38 q2160 cs_X8_spelled (mX8_spelled _ _ _ _ _ _ _) rfl ⟨rfl, rfl⟩ ⟨Nat.le_of_ble_eq_true rfl, Nat.le_of_ble_eq_true rfl⟩ rfl (Nat.le_of_ble_eq_true rfl) ⟨Nat.le_of_ble_eq_true rfl, Nat.le_of_ble_eq_true rfl⟩ ?_
    refine tv_callR hX rfl dX8_policyHere_41 q2167 cf_X8_isWord hw (mX8_isWord hw _) rfl ⟨rfl, rfl⟩ ⟨Nat.le_of_ble_eq_true rfl, Nat.le_of_ble_eq_true rfl⟩ rfl (Nat.le_of_ble_eq_true rfl) ⟨Nat.le_of_ble_eq_true rfl, Nat.le_of_ble_eq_true rfl⟩ ?_
    refine v_ifb_eq (tgt := 49) hX dX8_policyHere_44 rfl (fun c_44 => ?_) (fun c_44 => ?_)
    · refine v_aload_n hX dX8_policyHere_49 rfl ?_
      refine tv_callR hX rfl dX8_policyHere_50 q2191 cf_X8_isWaveWord hw (mX8_isWaveWord hw) rfl ⟨rfl, rfl⟩ ⟨Nat.le_of_ble_eq_true rfl, Nat.le_of_ble_eq_true rfl⟩ rfl (Nat.le_of_ble_eq_true rfl) ⟨Nat.le_of_ble_eq_true rfl, Nat.le_of_ble_eq_true rfl⟩ ?_
      refine v_ifb_eq (tgt := 60) hX dX8_policyHere_53 rfl (fun c_53 => ?_) (fun c_53 => ?_)
      · refine v_iconst hX dX8_policyHere_60 lim1 ?_
        exact v_iret hX dX8_policyHere_61 hR (Nat.le_of_ble_eq_true rfl) (Nat.le_of_ble_eq_true rfl) (⟨congrArg (fun z => some (Value.int z)) (Eq.symm (by first | (rw [tw_polH, if_neg c_19, if_neg c_44, if_neg c_53]; done) | (rw [tw_polH, if_neg c_19, if_neg c_44, if_neg c_53]; rfl))), rfl⟩)
      · refine v_iconst hX dX8_policyHere_56 li2 ?_
        refine v_goto (tgt := 61) hX dX8_policyHere_57 rfl ?_
        exact v_iret hX dX8_policyHere_61 hR (Nat.le_of_ble_eq_true rfl) (Nat.le_of_ble_eq_true rfl) (⟨congrArg (fun z => some (Value.int z)) (Eq.symm (by first | (rw [tw_polH, if_neg c_19, if_neg c_44, if_pos c_53]; done) | (rw [tw_polH, if_neg c_19, if_neg c_44, if_pos c_53]; rfl))), rfl⟩)
    · refine v_iconst hX dX8_policyHere_47 li1 ?_
      exact v_iret hX dX8_policyHere_48 hR (Nat.le_of_ble_eq_true rfl) (Nat.le_of_ble_eq_true rfl) (⟨congrArg (fun z => some (Value.int z)) (Eq.symm (by first | (rw [tw_polH, if_neg c_19, if_pos c_44]; done) | (rw [tw_polH, if_neg c_19, if_pos c_44]; rfl))), rfl⟩)
  · refine v_iconst hX dX8_policyHere_22 li0 ?_
    exact v_iret hX dX8_policyHere_23 hR (Nat.le_of_ble_eq_true rfl) (Nat.le_of_ble_eq_true rfl) (⟨congrArg (fun z => some (Value.int z)) (Eq.symm (by first | (rw [tw_polH, if_pos c_19]; done) | (rw [tw_polH, if_pos c_19]; rfl))), rfl⟩)
end
