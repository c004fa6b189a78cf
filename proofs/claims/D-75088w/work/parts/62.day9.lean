/-! the Day is made -/
set_option maxRecDepth 100000
def ddv (j : Nat) : Value := if j < 19 ∨ 21 < j then .null else .int 0
def dcl0 (Γ : Gm) (j : Nat) : va_E := .inl (Γ.2.1 (dti.getD j 9), dln.getD j 0, .inl (fun _ => 0))
def dx0 (p q : Nat) : DS := (fun _ => 0, va_up (va_up (fun _ => 0) 22 p) 23 q, fun _ _ => 0)
/-- a world without an object and its arrays -/
noncomputable def dwB (a : Nat) (Go : Nat → Option Nat) (w : Wd) : Wd := fun z => if z = a then none else @ite _ (∃ j, Go j = some z) (Classical.propDecidable _) none (w z)
theorem dwB_a {a : Nat} {Go : Nat → Option Nat} {w : Wd} : dwB a Go w a = none := if_pos rfl
theorem dwB_G {a j z : Nat} {Go : Nat → Option Nat} {w : Wd} (h : Go j = some z) : dwB a Go w z = none := by
  unfold dwB
  split
  · rfl
  · exact if_pos ⟨j, h⟩
theorem dwB_o {a z : Nat} {Go : Nat → Option Nat} {w : Wd} (h : z ≠ a) (h2 : ∀ j, Go j ≠ some z) : dwB a Go w z = w z := by
  unfold dwB
  rw [if_neg h]
  exact if_neg (fun ⟨j, e⟩ => h2 j e)
/-- a Day made -/
theorem dW_of {Γ : Gm} {a p q : Nat} {wB w : Wd} {Go : Nat → Option Nat} {fs : List Value} {q0 : Nat} (h : pW 3 24 ddv (dcl0 Γ) a Go wB w) (hG : ∀ j, j < 19 → ∃ g, Go j = some g) (hG2 : ∀ j, 19 ≤ j → Go j = none) (hq : w q = none) {w' : Wd} (hw' : w' = wup (wup w q (true, .inr (4, []))) a (true, .inr (3, fs))) (hfs : fs = ((pfs 24 ddv Go).set 22 (.ref p)).set 23 (.ref q)) : ∃ (G : Nat → Nat) (wC : Wd), G 19 = a ∧ dW Γ G wC (dx0 p q) w' ∧ ∀ z v, z ≠ a → wB z = some v → wC z = some v := by
  obtain ⟨h1, h2, h3, h4, h5⟩ := h
  have hqa : q ≠ a := fun e => by rw [e, h1] at hq; cases hq
  refine ⟨fun j => if j = 19 then a else (Go j).getD 0, dwB a Go (wup w q (true, .inr (4, []))), rfl, ⟨?_, fun j hj => ?_, fun z hz => ?_, fun i j hi hj e => ?_, fun j hj => ?_⟩, fun z v hz hv => ?_⟩
  · subst hw'
    show wup _ a _ a = _
    rw [wup_s, hfs]
    congr 4
    apply List.ext_getElem?
    intro i
    rw [List.getElem?_set, List.getElem?_set]
    by_cases e23 : i = 23
    · subst e23; rw [if_pos rfl, if_pos (by simp [pfs_len])]; rfl
    · rw [if_neg (Ne.symm e23)]
      by_cases e22 : i = 22
      · subst e22; rw [if_pos rfl, if_pos (by simp [pfs_len])]; rfl
      · rw [if_neg (Ne.symm e22)]
        by_cases hi : i < 24
        · rw [pfs_at hi]
          by_cases h19 : i < 19
          · obtain ⟨g, hg⟩ := hG i h19
            rw [hg]
            have : ∀ i : Nat, i < 19 → ∀ G : Nat → Nat, (dfs G (dx0 p q))[i]? = some (.ref (G i)) := by
              intro i hi G
              match i, hi with
              | 0, _ => rfl
              | 1, _ => rfl
              | 2, _ => rfl
              | 3, _ => rfl
              | 4, _ => rfl
              | 5, _ => rfl
              | 6, _ => rfl
              | 7, _ => rfl
              | 8, _ => rfl
              | 9, _ => rfl
              | 10, _ => rfl
              | 11, _ => rfl
              | 12, _ => rfl
              | 13, _ => rfl
              | 14, _ => rfl
              | 15, _ => rfl
              | 16, _ => rfl
              | 17, _ => rfl
              | 18, _ => rfl
              | n + 19, h => omega
            rw [this i h19, if_neg (show ¬ i = 19 by omega), hg]
            rfl
          · rw [hG2 i (by omega)]
            have h3 : i = 19 ∨ i = 20 ∨ i = 21 := by omega
            rcases h3 with e | e | e <;> (subst e; rfl)
        · rw [List.getElem?_eq_none (by rw [pfs_len]; omega), List.getElem?_eq_none (by show 24 ≤ i; omega)]
  · obtain ⟨g, hg⟩ := hG j hj
    subst hw'
    show wup _ a _ (if j = 19 then a else (Go j).getD 0) = _
    rw [if_neg (show ¬ j = 19 by omega), hg]
    show wup _ a _ g = _
    rw [wup_n (h5 j g hg).2, wup_n (fun e => by rw [← e, h2 j g hg] at hq; cases hq), h2 j g hg]
    rfl
  · have hza : z ≠ a := hz 19 (by decide)
    have hzG : ∀ j, Go j ≠ some z := by
      intro j e
      by_cases h19 : j < 19
      · exact hz j (by omega) (by show z = if j = 19 then a else (Go j).getD 0; rw [if_neg (by omega), e]; rfl)
      · rw [hG2 j (by omega)] at e; cases e
    subst hw'
    rw [wup_n hza, dwB_o hza hzG]
  · have key : ∀ i, i < 20 → ¬ i = 19 → ∃ g, Go i = some g := fun i hi hn => hG i (by omega)
    by_cases ei : i = 19
    · by_cases ej : j = 19
      · omega
      · obtain ⟨g, hg⟩ := key j hj ej
        have e : a = g := by
          have : (if i = 19 then a else (Go i).getD 0) = (if j = 19 then a else (Go j).getD 0) := e
          rw [if_pos ei, if_neg ej, hg] at this; exact this
        exact absurd e.symm (h5 j g hg).2
    · obtain ⟨g, hg⟩ := key i hi ei
      by_cases ej : j = 19
      · have e : g = a := by
          have : (if i = 19 then a else (Go i).getD 0) = (if j = 19 then a else (Go j).getD 0) := e
          rw [if_neg ei, if_pos ej, hg] at this; exact this
        exact absurd e (h5 i g hg).2
      · obtain ⟨g2, hg2⟩ := key j hj ej
        have e : g = g2 := by
          have : (if i = 19 then a else (Go i).getD 0) = (if j = 19 then a else (Go j).getD 0) := e
          rw [if_neg ei, if_neg ej, hg, hg2] at this; exact this
        subst e
        exact h4 i j g hg hg2
  · show dwB a Go _ (if j = 19 then a else (Go j).getD 0) = none
    by_cases ej : j = 19
    · rw [if_pos ej]; exact dwB_a
    · obtain ⟨g, hg⟩ := hG j (by omega)
      rw [if_neg ej, hg]
      exact dwB_G hg
  · have hzG0 : ¬ ∃ j, Go j = some z := by
      rintro ⟨j, e⟩
      rw [(h5 j z e).1] at hv; cases hv
    have hzw : w z = some v := by rw [h3 z hz (fun j e => hzG0 ⟨j, e⟩)]; exact hv
    rw [dwB_o hz (fun j e => hzG0 ⟨j, e⟩), wup_n (wne hzw hq)]
    exact hzw
theorem c2_X3_init : CG yX3_init cX3_init 2 none 1 := ⟨q563, q144, q564, by decide +kernel⟩
theorem m2_X3_init {Γ : Gm} {l : Launch} {w : Wd} (hg : gC Γ) {a p : Nat} (ha : w a = some (true, .inr (3, pfs 24 ddv (fun _ => none)))) : M0 Γ l yX3_init (ws_ yX3_init cX3_init 2 none) (rl 3 20 264) 20 264 [.ref a, .ref p] w (fun v9 w9 => v9 = none ∧ ∃ (G : Nat → Nat) (wC : Wd) (x : DS), G 19 = a ∧ dW Γ G wC x w9 ∧ ∀ z v, z ≠ a → w z = some v → wC z = some v) := by
  refine M0.of (lv := [some (.ref a), some (.ref p)]) (by decide) (Nat.le_of_ble_eq_true rfl) 0 rfl rfl ?_
  intro X hX hR hl hG hnm
  subst hl; subst hG
  have hw : pW 3 24 ddv (dcl0 (xG X)) a (fun _ => none) w w := pW.zero ha
  refine v_aload_n hX dX3_init_0 rfl ?_
  refine v_obj hX rfl dX3_init_1 q565 (Nat.le_of_ble_eq_true rfl) (Nat.le_of_ble_eq_true rfl) ?_
  refine v_aload_n hX dX3_init_4 rfl ?_
  refine v_bipush hX dX3_init_5 kb20 ?_
  refine v_mk (ti := 0) (a0 := (20, .inl (fun _ => 0))) hX dX3_init_7 dX3_init_9 hw q559 rfl rfl (fun _ => rfl) (by decide) (by decide +kernel) (Nat.le_of_ble_eq_true rfl) (Nat.le_of_ble_eq_true rfl) (Nat.le_of_ble_eq_true rfl) in_X3 tyX3 tyX3_ok nmX3 cl_3 0 (by decide) q591 (fun _ h => h) rfl hnm rfl (fun _ => rfl) (fun _ => rfl) rfl rfl (fun q0 w hw => ?_)
  refine v_aload_n hX dX3_init_12 rfl ?_
  refine v_bipush hX dX3_init_13 kb20 ?_
  refine v_mk (ti := 0) (a0 := (20, .inl (fun _ => 0))) hX dX3_init_15 dX3_init_17 hw q559 rfl rfl (fun _ => rfl) (by decide) (by decide +kernel) (Nat.le_of_ble_eq_true rfl) (Nat.le_of_ble_eq_true rfl) (Nat.le_of_ble_eq_true rfl) in_X3 tyX3 tyX3_ok nmX3 cl_3 1 (by decide) q592 (fun _ h => h) rfl hnm rfl (fun _ => rfl) (fun _ => rfl) rfl rfl (fun q1 w hw => ?_)
  refine v_aload_n hX dX3_init_20 rfl ?_
  refine v_bipush hX dX3_init_21 kb20 ?_
  refine v_mk (ti := 0) (a0 := (20, .inl (fun _ => 0))) hX dX3_init_23 dX3_init_25 hw q559 rfl rfl (fun _ => rfl) (by decide) (by decide +kernel) (Nat.le_of_ble_eq_true rfl) (Nat.le_of_ble_eq_true rfl) (Nat.le_of_ble_eq_true rfl) in_X3 tyX3 tyX3_ok nmX3 cl_3 2 (by decide) q594 (fun _ h => h) rfl hnm rfl (fun _ => rfl) (fun _ => rfl) rfl rfl (fun q2 w hw => ?_)
  refine v_aload_n hX dX3_init_28 rfl ?_
  refine v_bipush hX dX3_init_29 kb20 ?_
  refine v_mk (ti := 0) (a0 := (20, .inl (fun _ => 0))) hX dX3_init_31 dX3_init_33 hw q559 rfl rfl (fun _ => rfl) (by decide) (by decide +kernel) (Nat.le_of_ble_eq_true rfl) (Nat.le_of_ble_eq_true rfl) (Nat.le_of_ble_eq_true rfl) in_X3 tyX3 tyX3_ok nmX3 cl_3 3 (by decide) q596 (fun _ h => h) rfl hnm rfl (fun _ => rfl) (fun _ => rfl) rfl rfl (fun q3 w hw => ?_)
  refine v_aload_n hX dX3_init_36 rfl ?_
  refine v_bipush hX dX3_init_37 kb20 ?_
  refine v_mk (ti := 0) (a0 := (20, .inl (fun _ => 0))) hX dX3_init_39 dX3_init_41 hw q559 rfl rfl (fun _ => rfl) (by decide) (by decide +kernel) (Nat.le_of_ble_eq_true rfl) (Nat.le_of_ble_eq_true rfl) (Nat.le_of_ble_eq_true rfl) in_X3 tyX3 tyX3_ok nmX3 cl_3 4 (by decide) q598 (fun _ h => h) rfl hnm rfl (fun _ => rfl) (fun _ => rfl) rfl rfl (fun q4 w hw => ?_)
  refine v_aload_n hX dX3_init_44 rfl ?_
  refine v_bipush hX dX3_init_45 kb20 ?_
  refine v_mk (ti := 0) (a0 := (20, .inl (fun _ => 0))) hX dX3_init_47 dX3_init_49 hw q559 rfl rfl (fun _ => rfl) (by decide) (by decide +kernel) (Nat.le_of_ble_eq_true rfl) (Nat.le_of_ble_eq_true rfl) (Nat.le_of_ble_eq_true rfl) in_X3 tyX3 tyX3_ok nmX3 cl_3 5 (by decide) q600 (fun _ h => h) rfl hnm rfl (fun _ => rfl) (fun _ => rfl) rfl rfl (fun q5 w hw => ?_)
  refine v_aload_n hX dX3_init_52 rfl ?_
  refine v_bipush hX dX3_init_53 kb20 ?_
  refine v_mk (ti := 0) (a0 := (20, .inl (fun _ => 0))) hX dX3_init_55 dX3_init_57 hw q559 rfl rfl (fun _ => rfl) (by decide) (by decide +kernel) (Nat.le_of_ble_eq_true rfl) (Nat.le_of_ble_eq_true rfl) (Nat.le_of_ble_eq_true rfl) in_X3 tyX3 tyX3_ok nmX3 cl_3 6 (by decide) q602 (fun _ h => h) rfl hnm rfl (fun _ => rfl) (fun _ => rfl) rfl rfl (fun q6 w hw => ?_)
  refine v_aload_n hX dX3_init_60 rfl ?_
  refine v_bipush hX dX3_init_61 kb20 ?_
  refine v_mk (ti := 0) (a0 := (20, .inl (fun _ => 0))) hX dX3_init_63 dX3_init_65 hw q559 rfl rfl (fun _ => rfl) (by decide) (by decide +kernel) (Nat.le_of_ble_eq_true rfl) (Nat.le_of_ble_eq_true rfl) (Nat.le_of_ble_eq_true rfl) in_X3 tyX3 tyX3_ok nmX3 cl_3 7 (by decide) q604 (fun _ h => h) rfl hnm rfl (fun _ => rfl) (fun _ => rfl) rfl rfl (fun q7 w hw => ?_)
  refine v_aload_n hX dX3_init_68 rfl ?_
  refine v_bipush hX dX3_init_69 kb20 ?_
  refine v_mk (ti := 0) (a0 := (20, .inl (fun _ => 0))) hX dX3_init_71 dX3_init_73 hw q559 rfl rfl (fun _ => rfl) (by decide) (by decide +kernel) (Nat.le_of_ble_eq_true rfl) (Nat.le_of_ble_eq_true rfl) (Nat.le_of_ble_eq_true rfl) in_X3 tyX3 tyX3_ok nmX3 cl_3 8 (by decide) q606 (fun _ h => h) rfl hnm rfl (fun _ => rfl) (fun _ => rfl) rfl rfl (fun q8 w hw => ?_)
  refine v_aload_n hX dX3_init_76 rfl ?_
  refine v_bipush hX dX3_init_77 kb20 ?_
  refine v_mk (ti := 0) (a0 := (20, .inl (fun _ => 0))) hX dX3_init_79 dX3_init_81 hw q559 rfl rfl (fun _ => rfl) (by decide) (by decide +kernel) (Nat.le_of_ble_eq_true rfl) (Nat.le_of_ble_eq_true rfl) (Nat.le_of_ble_eq_true rfl) in_X3 tyX3 tyX3_ok nmX3 cl_3 9 (by decide) q608 (fun _ h => h) rfl hnm rfl (fun _ => rfl) (fun _ => rfl) rfl rfl (fun q9 w hw => ?_)
  refine v_aload_n hX dX3_init_84 rfl ?_
  refine v_bipush hX dX3_init_85 kb20 ?_
  refine v_mk (ti := 0) (a0 := (20, .inl (fun _ => 0))) hX dX3_init_87 dX3_init_89 hw q559 rfl rfl (fun _ => rfl) (by decide) (by decide +kernel) (Nat.le_of_ble_eq_true rfl) (Nat.le_of_ble_eq_true rfl) (Nat.le_of_ble_eq_true rfl) in_X3 tyX3 tyX3_ok nmX3 cl_3 10 (by decide) q610 (fun _ h => h) rfl hnm rfl (fun _ => rfl) (fun _ => rfl) rfl rfl (fun q10 w hw => ?_)
  refine v_aload_n hX dX3_init_92 rfl ?_
  refine v_bipush hX dX3_init_93 kb20 ?_
  refine v_mk (ti := 4) (a0 := (20, .inl (fun _ => 0))) hX dX3_init_95 dX3_init_97 hw q576 rfl rfl (fun _ => rfl) (by decide) (by decide +kernel) (Nat.le_of_ble_eq_true rfl) (Nat.le_of_ble_eq_true rfl) (Nat.le_of_ble_eq_true rfl) in_X3 tyX3 tyX3_ok nmX3 cl_3 11 (by decide) q612 (fun _ h => h) rfl hnm rfl (fun _ => rfl) (fun _ => rfl) rfl rfl (fun q11 w hw => ?_)
  refine v_aload_n hX dX3_init_100 rfl ?_
  refine v_iconst hX dX3_init_101 ki3 ?_
  refine v_mk (ti := 0) (a0 := (3, .inl (fun _ => 0))) hX dX3_init_102 dX3_init_104 hw q559 rfl rfl (fun _ => rfl) (by decide) (by decide +kernel) (Nat.le_of_ble_eq_true rfl) (Nat.le_of_ble_eq_true rfl) (Nat.le_of_ble_eq_true rfl) in_X3 tyX3 tyX3_ok nmX3 cl_3 12 (by decide) q613 (fun _ h => h) rfl hnm rfl (fun _ => rfl) (fun _ => rfl) rfl rfl (fun q12 w hw => ?_)
  refine v_aload_n hX dX3_init_107 rfl ?_
  refine v_iconst hX dX3_init_108 ki3 ?_
  refine v_mk (ti := 0) (a0 := (3, .inl (fun _ => 0))) hX dX3_init_109 dX3_init_111 hw q559 rfl rfl (fun _ => rfl) (by decide) (by decide +kernel) (Nat.le_of_ble_eq_true rfl) (Nat.le_of_ble_eq_true rfl) (Nat.le_of_ble_eq_true rfl) in_X3 tyX3 tyX3_ok nmX3 cl_3 13 (by decide) q614 (fun _ h => h) rfl hnm rfl (fun _ => rfl) (fun _ => rfl) rfl rfl (fun q13 w hw => ?_)
  refine v_aload_n hX dX3_init_114 rfl ?_
  refine v_iconst hX dX3_init_115 ki3 ?_
  refine v_mk (ti := 0) (a0 := (3, .inl (fun _ => 0))) hX dX3_init_116 dX3_init_118 hw q559 rfl rfl (fun _ => rfl) (by decide) (by decide +kernel) (Nat.le_of_ble_eq_true rfl) (Nat.le_of_ble_eq_true rfl) (Nat.le_of_ble_eq_true rfl) in_X3 tyX3 tyX3_ok nmX3 cl_3 14 (by decide) q615 (fun _ h => h) rfl hnm rfl (fun _ => rfl) (fun _ => rfl) rfl rfl (fun q14 w hw => ?_)
  refine v_aload_n hX dX3_init_121 rfl ?_
  refine v_iconst hX dX3_init_122 ki3 ?_
  refine v_mk (ti := 0) (a0 := (3, .inl (fun _ => 0))) hX dX3_init_123 dX3_init_125 hw q559 rfl rfl (fun _ => rfl) (by decide) (by decide +kernel) (Nat.le_of_ble_eq_true rfl) (Nat.le_of_ble_eq_true rfl) (Nat.le_of_ble_eq_true rfl) in_X3 tyX3 tyX3_ok nmX3 cl_3 15 (by decide) q616 (fun _ h => h) rfl hnm rfl (fun _ => rfl) (fun _ => rfl) rfl rfl (fun q15 w hw => ?_)
  refine v_aload_n hX dX3_init_128 rfl ?_
  refine v_iconst hX dX3_init_129 ki4 ?_
  refine v_mk (ti := 0) (a0 := (4, .inl (fun _ => 0))) hX dX3_init_130 dX3_init_132 hw q559 rfl rfl (fun _ => rfl) (by decide) (by decide +kernel) (Nat.le_of_ble_eq_true rfl) (Nat.le_of_ble_eq_true rfl) (Nat.le_of_ble_eq_true rfl) in_X3 tyX3 tyX3_ok nmX3 cl_3 16 (by decide) q618 (fun _ h => h) rfl hnm rfl (fun _ => rfl) (fun _ => rfl) rfl rfl (fun q16 w hw => ?_)
  refine v_aload_n hX dX3_init_135 rfl ?_
  refine v_iconst hX dX3_init_136 ki4 ?_
  refine v_mk (ti := 0) (a0 := (4, .inl (fun _ => 0))) hX dX3_init_137 dX3_init_139 hw q559 rfl rfl (fun _ => rfl) (by decide) (by decide +kernel) (Nat.le_of_ble_eq_true rfl) (Nat.le_of_ble_eq_true rfl) (Nat.le_of_ble_eq_true rfl) in_X3 tyX3 tyX3_ok nmX3 cl_3 17 (by decide) q620 (fun _ h => h) rfl hnm rfl (fun _ => rfl) (fun _ => rfl) rfl rfl (fun q17 w hw => ?_)
  refine v_aload_n hX dX3_init_142 rfl ?_
  refine v_iconst hX dX3_init_143 ki4 ?_
  refine v_mk (ti := 0) (a0 := (4, .inl (fun _ => 0))) hX dX3_init_144 dX3_init_146 hw q559 rfl rfl (fun _ => rfl) (by decide) (by decide +kernel) (Nat.le_of_ble_eq_true rfl) (Nat.le_of_ble_eq_true rfl) (Nat.le_of_ble_eq_true rfl) in_X3 tyX3 tyX3_ok nmX3 cl_3 18 (by decide) q622 (fun _ h => h) rfl hnm rfl (fun _ => rfl) (fun _ => rfl) rfl rfl (fun q18 w hw => ?_)
  generalize hGo : (va_up (va_up (va_up (va_up (va_up (va_up (va_up (va_up (va_up (va_up (va_up (va_up (va_up (va_up (va_up (va_up (va_up (va_up (va_up (fun _ => none) 0 (some q0)) 1 (some q1)) 2 (some q2)) 3 (some q3)) 4 (some q4)) 5 (some q5)) 6 (some q6)) 7 (some q7)) 8 (some q8)) 9 (some q9)) 10 (some q10)) 11 (some q11)) 12 (some q12)) 13 (some q13)) 14 (some q14)) 15 (some q15)) 16 (some q16)) 17 (some q17)) 18 (some q18)) = Go at hw
  refine v_aload_n hX dX3_init_149 rfl ?_
  refine v_aload_n hX dX3_init_150 rfl ?_
  refine v_put hX dX3_init_151 in_X3 tyX3 tyX3_ok nmX3 cl_3 22 (by decide) q629 (fun _ h => h) rfl (tyX3_ok 22 (by decide)) rfl rfl hw.1 (by rw [pfs_len]; decide) ?_
  refine v_aload_n hX dX3_init_154 rfl ?_
  refine v_iconst hX dX3_init_155 ki0 ?_
  refine v_cS hX rfl dX3_init_156 q566 c2_X4_numbered (m2_X4_numbered0 hg rfl) rfl ⟨rfl, rfl⟩ ⟨Nat.le_of_ble_eq_true rfl, Nat.le_of_ble_eq_true rfl⟩ rfl (Nat.le_of_ble_eq_true rfl) ⟨Nat.le_of_ble_eq_true rfl, Nat.le_of_ble_eq_true rfl⟩ (fun v w2 h => ?_)
  obtain ⟨q, hq, rfl, rfl⟩ := h
  have hqa : a ≠ q := fun e => by rw [← e, wup_s] at hq; cases hq
  refine V.at rfl rfl (st2 := .ref q :: _ :: _) rfl ?_
  refine v_put hX dX3_init_159 in_X3 tyX3 tyX3_ok nmX3 cl_3 23 (by decide) q631 (fun _ h => h) rfl (tyX3_ok 23 (by decide)) rfl rfl ((wup_n hqa).trans wup_s) (by rw [List.length_set, pfs_len]; decide) ?_
  have hq0 := (wup_none hq).1
  have hG1 : ∀ j, j < 19 → ∃ g, Go j = some g := by
    intro j hj
    rw [← hGo]
    match j, hj with
    | 0, _ => exact ⟨q0, rfl⟩
    | 1, _ => exact ⟨q1, rfl⟩
    | 2, _ => exact ⟨q2, rfl⟩
    | 3, _ => exact ⟨q3, rfl⟩
    | 4, _ => exact ⟨q4, rfl⟩
    | 5, _ => exact ⟨q5, rfl⟩
    | 6, _ => exact ⟨q6, rfl⟩
    | 7, _ => exact ⟨q7, rfl⟩
    | 8, _ => exact ⟨q8, rfl⟩
    | 9, _ => exact ⟨q9, rfl⟩
    | 10, _ => exact ⟨q10, rfl⟩
    | 11, _ => exact ⟨q11, rfl⟩
    | 12, _ => exact ⟨q12, rfl⟩
    | 13, _ => exact ⟨q13, rfl⟩
    | 14, _ => exact ⟨q14, rfl⟩
    | 15, _ => exact ⟨q15, rfl⟩
    | 16, _ => exact ⟨q16, rfl⟩
    | 17, _ => exact ⟨q17, rfl⟩
    | 18, _ => exact ⟨q18, rfl⟩
    | n + 19, h => omega
  have hG2 : ∀ j, 19 ≤ j → Go j = none := by
    intro j hj
    rw [← hGo]
    simp only [va_up]
    simp [show ¬ j = 0 by omega, show ¬ j = 1 by omega, show ¬ j = 2 by omega, show ¬ j = 3 by omega, show ¬ j = 4 by omega, show ¬ j = 5 by omega, show ¬ j = 6 by omega, show ¬ j = 7 by omega, show ¬ j = 8 by omega, show ¬ j = 9 by omega, show ¬ j = 10 by omega, show ¬ j = 11 by omega, show ¬ j = 12 by omega, show ¬ j = 13 by omega, show ¬ j = 14 by omega, show ¬ j = 15 by omega, show ¬ j = 16 by omega, show ¬ j = 17 by omega, show ¬ j = 18 by omega]
  obtain ⟨G, wC, g1, g2, g3⟩ := dW_of (p := p) (q0 := 0) (w' := wup (wup (wup _ a (true, .inr (3, (pfs 24 ddv Go).set 22 (.ref p)))) q (true, .inr (4, []))) a (true, .inr (3, ((pfs 24 ddv Go).set 22 (.ref p)).set 23 (.ref q)))) hw hG1 hG2 hq0 (by rw [wup_cm hqa.symm, wup_ss]) rfl
  exact v_vret hX dX3_init_162 hR (Nat.le_of_ble_eq_true rfl) (Nat.le_of_ble_eq_true rfl) ⟨rfl, G, wC, _, g1, g2, g3⟩
