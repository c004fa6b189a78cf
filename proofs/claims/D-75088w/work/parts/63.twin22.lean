/-! the twin is made -/
set_option maxRecDepth 100000
theorem kb8 : (Int8.ofInt (8)).toInt32 = 8 := by decide +kernel
theorem kb48 : (Int8.ofInt (48)).toInt32 = 48 := by decide +kernel
theorem kb60 : (Int8.ofInt (60)).toInt32 = 60 := by decide +kernel
theorem ks700 : (Int16.ofInt (700)).toInt32 = 700 := by decide +kernel
theorem ks840 : (Int16.ofInt (840)).toInt32 = 840 := by decide +kernel
theorem ks1440 : (Int16.ofInt (1440)).toInt32 = 1440 := by decide +kernel
theorem ks5760 : (Int16.ofInt (5760)).toInt32 = 5760 := by decide +kernel
def tdv (j : Nat) : Value := match tkl.getD j 0 with
  | 0 => .int 0
  | 1 => .long 0
  | _ => .null
def tx0 : TS := (fun _ => 0, fun _ => 0, fun _ _ => 0, fun _ _ => 0)
/-- a twin made -/
theorem tW_of {Γ : Gm} {a : Nat} {wB w : Wd} {Go : Nat → Option Nat} (h : pW 0 61 tdv (tcell Γ tx0) a Go wB w) (hG : ∀ j, j < 61 → tkl.getD j 0 = 2 → ∃ g, Go j = some g) (hG2 : ∀ j, j < 61 → tkl.getD j 0 ≠ 2 → Go j = none) (hG3 : ∀ j, 61 ≤ j → Go j = none) : ∃ G : Nat → Nat, G 61 = a ∧ tW Γ G wB tx0 w := by
  have hk : ∀ j, j < 61 → (tti.getD j 9 < 8 ↔ tkl.getD j 0 = 2) := by decide
  have hk2 : ∀ j, j < 61 → tti.getD j 9 < 9 → tti.getD j 9 < 8 := by decide
  obtain ⟨h1, h2, h3, h4, h5⟩ := h
  refine ⟨fun j => if j = 61 then a else (Go j).getD 0, rfl, ?_, fun j hj ht => ?_, fun z hz => ?_, fun i j hi hj hti htj e => ?_⟩
  · show w a = _
    rw [h1]
    congr 4
    unfold pfs tfs
    apply List.map_congr_left
    intro j hj
    have hj := List.mem_range.mp hj
    by_cases e : tkl.getD j 0 = 2
    · obtain ⟨g, hg⟩ := hG j hj e
      unfold tval
      rw [hg, e]
      show Value.ref g = Value.ref (if j = 61 then a else (Go j).getD 0)
      rw [if_neg (show ¬ j = 61 by omega), hg]; rfl
    · rw [hG2 j hj e]
      unfold tdv tval
      have : tkl.getD j 0 = 0 ∨ tkl.getD j 0 = 1 ∨ tkl.getD j 0 = 2 := by
        have : ∀ j, j < 61 → tkl.getD j 0 = 0 ∨ tkl.getD j 0 = 1 ∨ tkl.getD j 0 = 2 := by decide
        exact this j hj
      rcases this with q | q | q
      · rw [q]; rfl
      · rw [q]; rfl
      · exact absurd q e
  · obtain ⟨g, hg⟩ := hG j hj ((hk j hj).mp ht)
    show w (if j = 61 then a else (Go j).getD 0) = _
    rw [if_neg (show ¬ j = 61 by omega), hg]
    exact h2 j g hg
  · have hza : z ≠ a := hz 61 (by decide) (by decide)
    refine h3 z hza (fun j e => ?_)
    by_cases hj : j < 61
    · by_cases e2 : tkl.getD j 0 = 2
      · refine hz j (by omega) (Nat.lt_succ_of_lt ((hk j hj).mpr e2)) ?_
        show z = if j = 61 then a else (Go j).getD 0
        rw [if_neg (by omega), e]; rfl
      · rw [hG2 j hj e2] at e; cases e
    · rw [hG3 j (by omega)] at e; cases e
  · have key : ∀ i, i < 62 → tti.getD i 9 < 9 → ¬ i = 61 → ∃ g, Go i = some g := fun i hi ht hn => hG i (by omega) ((hk i (by omega)).mp (hk2 i (by omega) ht))
    have e : (if i = 61 then a else (Go i).getD 0) = (if j = 61 then a else (Go j).getD 0) := e
    by_cases ei : i = 61
    · by_cases ej : j = 61
      · omega
      · obtain ⟨g, hg⟩ := key j hj htj ej
        rw [if_pos ei, if_neg ej, hg] at e
        exact absurd (show g = a from e.symm) (h5 j g hg).2
    · obtain ⟨g, hg⟩ := key i hi hti ei
      by_cases ej : j = 61
      · rw [if_neg ei, if_pos ej, hg] at e
        exact absurd (show g = a from e) (h5 i g hg).2
      · obtain ⟨g2, hg2⟩ := key j hj htj ej
        rw [if_neg ei, if_neg ej, hg, hg2] at e
        have e : g = g2 := e
        subst e
        exact h4 i j g hg hg2
theorem c2_X8_init : CG yX8_init cX8_init 1 none 0 := ⟨q1894, q150, q1895, by decide +kernel⟩
theorem m2_X8_init {Γ : Gm} {l : Launch} {w : Wd} {a : Nat} (ha : w a = some (true, .inr (0, pfs 61 tdv (fun _ => none)))) : M0 Γ l yX8_init (ws_ yX8_init cX8_init 1 none) (rl 3 38 16376) 38 16376 [.ref a] w (fun v9 w9 => v9 = none ∧ ∃ G : Nat → Nat, G 61 = a ∧ tW Γ G w (tw_keep (tw_br (sI tx0 17 (-1)))) w9) := by
  refine M0.of (lv := [some (.ref a)]) (by decide) (Nat.le_of_ble_eq_true rfl) 0 rfl rfl ?_
  intro X hX hR hl hG hnm
  subst hl; subst hG
  have hw : pW 0 61 tdv (tcell (xG X) tx0) a (fun _ => none) w w := pW.zero ha
  refine v_aload_n hX dX8_init_0 rfl ?_
  refine v_obj hX rfl dX8_init_1 q1896 (Nat.le_of_ble_eq_true rfl) (Nat.le_of_ble_eq_true rfl) ?_
  refine v_aload_n hX dX8_init_4 rfl ?_
  refine v_sipush hX dX8_init_5 ks840 ?_
  refine v_mk (ti := 0) (a0 := (840, .inl (fun _ => 0))) hX dX8_init_8 dX8_init_10 hw q559 rfl rfl (fun _ => rfl) (by decide) (by decide +kernel) (Nat.le_of_ble_eq_true rfl) (Nat.le_of_ble_eq_true rfl) (Nat.le_of_ble_eq_true rfl) in_X8 tyX8 tyX8_ok nmX8 cl_0 1 (by decide) q1910 (fun _ h => h) rfl hnm rfl (fun _ => rfl) (fun _ => rfl) rfl rfl (fun q1 w hw => ?_)
  refine v_aload_n hX dX8_init_13 rfl ?_
  refine v_bipush hX dX8_init_14 kb8 ?_
  refine v_mk (ti := 0) (a0 := (8, .inl (fun _ => 0))) hX dX8_init_16 dX8_init_18 hw q559 rfl rfl (fun _ => rfl) (by decide) (by decide +kernel) (Nat.le_of_ble_eq_true rfl) (Nat.le_of_ble_eq_true rfl) (Nat.le_of_ble_eq_true rfl) in_X8 tyX8 tyX8_ok nmX8 cl_0 6 (by decide) q1915 (fun _ h => h) rfl hnm rfl (fun _ => rfl) (fun _ => rfl) rfl rfl (fun q6 w hw => ?_)
  refine v_aload_n hX dX8_init_21 rfl ?_
  refine v_bipush hX dX8_init_22 kb8 ?_
  refine v_mk (ti := 0) (a0 := (8, .inl (fun _ => 0))) hX dX8_init_24 dX8_init_26 hw q559 rfl rfl (fun _ => rfl) (by decide) (by decide +kernel) (Nat.le_of_ble_eq_true rfl) (Nat.le_of_ble_eq_true rfl) (Nat.le_of_ble_eq_true rfl) in_X8 tyX8 tyX8_ok nmX8 cl_0 7 (by decide) q1916 (fun _ h => h) rfl hnm rfl (fun _ => rfl) (fun _ => rfl) rfl rfl (fun q7 w hw => ?_)
  refine v_aload_n hX dX8_init_29 rfl ?_
  refine v_bipush hX dX8_init_30 kb8 ?_
  refine v_mk (ti := 0) (a0 := (8, .inl (fun _ => 0))) hX dX8_init_32 dX8_init_34 hw q559 rfl rfl (fun _ => rfl) (by decide) (by decide +kernel) (Nat.le_of_ble_eq_true rfl) (Nat.le_of_ble_eq_true rfl) (Nat.le_of_ble_eq_true rfl) in_X8 tyX8 tyX8_ok nmX8 cl_0 8 (by decide) q1917 (fun _ h => h) rfl hnm rfl (fun _ => rfl) (fun _ => rfl) rfl rfl (fun q8 w hw => ?_)
  refine v_aload_n hX dX8_init_37 rfl ?_
  refine v_bipush hX dX8_init_38 kb8 ?_
  refine v_mk (ti := 0) (a0 := (8, .inl (fun _ => 0))) hX dX8_init_40 dX8_init_42 hw q559 rfl rfl (fun _ => rfl) (by decide) (by decide +kernel) (Nat.le_of_ble_eq_true rfl) (Nat.le_of_ble_eq_true rfl) (Nat.le_of_ble_eq_true rfl) in_X8 tyX8 tyX8_ok nmX8 cl_0 9 (by decide) q1918 (fun _ h => h) rfl hnm rfl (fun _ => rfl) (fun _ => rfl) rfl rfl (fun q9 w hw => ?_)
  refine v_aload_n hX dX8_init_45 rfl ?_
  refine v_bipush hX dX8_init_46 kb8 ?_
  refine v_mk (ti := 0) (a0 := (8, .inl (fun _ => 0))) hX dX8_init_48 dX8_init_50 hw q559 rfl rfl (fun _ => rfl) (by decide) (by decide +kernel) (Nat.le_of_ble_eq_true rfl) (Nat.le_of_ble_eq_true rfl) (Nat.le_of_ble_eq_true rfl) in_X8 tyX8 tyX8_ok nmX8 cl_0 10 (by decide) q1919 (fun _ h => h) rfl hnm rfl (fun _ => rfl) (fun _ => rfl) rfl rfl (fun q10 w hw => ?_)
  refine v_aload_n hX dX8_init_53 rfl ?_
  refine v_bipush hX dX8_init_54 kb8 ?_
  refine v_mk (ti := 0) (a0 := (8, .inl (fun _ => 0))) hX dX8_init_56 dX8_init_58 hw q559 rfl rfl (fun _ => rfl) (by decide) (by decide +kernel) (Nat.le_of_ble_eq_true rfl) (Nat.le_of_ble_eq_true rfl) (Nat.le_of_ble_eq_true rfl) in_X8 tyX8 tyX8_ok nmX8 cl_0 11 (by decide) q1920 (fun _ h => h) rfl hnm rfl (fun _ => rfl) (fun _ => rfl) rfl rfl (fun q11 w hw => ?_)
  refine v_aload_n hX dX8_init_61 rfl ?_
  refine v_bipush hX dX8_init_62 kb8 ?_
  refine v_mk (ti := 3) (a0 := (8, .inr (.inl (fun _ => 0)))) hX dX8_init_64 dX8_init_66 hw q2093 rfl rfl (fun _ => rfl) (by decide) (by decide +kernel) (Nat.le_of_ble_eq_true rfl) (Nat.le_of_ble_eq_true rfl) (Nat.le_of_ble_eq_true rfl) in_X8 tyX8 tyX8_ok nmX8 cl_0 12 (by decide) q1921 (fun _ h => h) rfl hnm rfl (fun _ => rfl) (fun _ => rfl) rfl rfl (fun q12 w hw => ?_)
  refine v_aload_n hX dX8_init_69 rfl ?_
  refine v_bipush hX dX8_init_70 kb6 ?_
  refine v_mk (ti := 0) (a0 := (6, .inl (fun _ => 0))) hX dX8_init_72 dX8_init_74 hw q559 rfl rfl (fun _ => rfl) (by decide) (by decide +kernel) (Nat.le_of_ble_eq_true rfl) (Nat.le_of_ble_eq_true rfl) (Nat.le_of_ble_eq_true rfl) in_X8 tyX8 tyX8_ok nmX8 cl_0 14 (by decide) q1923 (fun _ h => h) rfl hnm rfl (fun _ => rfl) (fun _ => rfl) rfl rfl (fun q14 w hw => ?_)
  refine v_aload_n hX dX8_init_77 rfl ?_
  refine v_sipush hX dX8_init_78 ks700 ?_
  refine v_mk (ti := 1) (a0 := (700, .inl (fun _ => 0))) hX dX8_init_81 dX8_init_83 hw q260 rfl rfl (fun _ => rfl) (by decide) (by decide +kernel) (Nat.le_of_ble_eq_true rfl) (Nat.le_of_ble_eq_true rfl) (Nat.le_of_ble_eq_true rfl) in_X8 tyX8 tyX8_ok nmX8 cl_0 15 (by decide) q1924 (fun _ h => h) rfl hnm rfl (fun _ => rfl) (fun _ => rfl) rfl rfl (fun q15 w hw => ?_)
  refine v_aload_n hX dX8_init_86 rfl ?_
  refine v_bipush hX dX8_init_87 kb60 ?_
  refine v_mk (ti := 2) (a0 := (60, .inl (fun _ => 0))) hX dX8_init_89 dX8_init_91 hw q2094 rfl rfl (fun _ => rfl) (by decide) (by decide +kernel) (Nat.le_of_ble_eq_true rfl) (Nat.le_of_ble_eq_true rfl) (Nat.le_of_ble_eq_true rfl) in_X8 tyX8 tyX8_ok nmX8 cl_0 18 (by decide) q1927 (fun _ h => h) rfl hnm rfl (fun _ => rfl) (fun _ => rfl) rfl rfl (fun q18 w hw => ?_)
  refine v_aload_n hX dX8_init_94 rfl ?_
  refine v_bipush hX dX8_init_95 kb48 ?_
  refine v_mk (ti := 0) (a0 := (48, .inl (fun _ => 0))) hX dX8_init_97 dX8_init_99 hw q559 rfl rfl (fun _ => rfl) (by decide) (by decide +kernel) (Nat.le_of_ble_eq_true rfl) (Nat.le_of_ble_eq_true rfl) (Nat.le_of_ble_eq_true rfl) in_X8 tyX8 tyX8_ok nmX8 cl_0 29 (by decide) q1938 (fun _ h => h) rfl hnm rfl (fun _ => rfl) (fun _ => rfl) rfl rfl (fun q29 w hw => ?_)
  refine v_aload_n hX dX8_init_102 rfl ?_
  refine v_bipush hX dX8_init_103 kb8 ?_
  refine v_mk (ti := 3) (a0 := (8, .inr (.inl (fun _ => 0)))) hX dX8_init_105 dX8_init_107 hw q2093 rfl rfl (fun _ => rfl) (by decide) (by decide +kernel) (Nat.le_of_ble_eq_true rfl) (Nat.le_of_ble_eq_true rfl) (Nat.le_of_ble_eq_true rfl) in_X8 tyX8 tyX8_ok nmX8 cl_0 30 (by decide) q1939 (fun _ h => h) rfl hnm rfl (fun _ => rfl) (fun _ => rfl) rfl rfl (fun q30 w hw => ?_)
  refine v_aload_n hX dX8_init_110 rfl ?_
  refine v_bipush hX dX8_init_111 kb6 ?_
  refine v_mk (ti := 0) (a0 := (6, .inl (fun _ => 0))) hX dX8_init_113 dX8_init_115 hw q559 rfl rfl (fun _ => rfl) (by decide) (by decide +kernel) (Nat.le_of_ble_eq_true rfl) (Nat.le_of_ble_eq_true rfl) (Nat.le_of_ble_eq_true rfl) in_X8 tyX8 tyX8_ok nmX8 cl_0 31 (by decide) q1940 (fun _ h => h) rfl hnm rfl (fun _ => rfl) (fun _ => rfl) rfl rfl (fun q31 w hw => ?_)
  refine v_aload_n hX dX8_init_118 rfl ?_
  refine v_bipush hX dX8_init_119 kb20 ?_
  refine v_mk (ti := 0) (a0 := (20, .inl (fun _ => 0))) hX dX8_init_121 dX8_init_123 hw q559 rfl rfl (fun _ => rfl) (by decide) (by decide +kernel) (Nat.le_of_ble_eq_true rfl) (Nat.le_of_ble_eq_true rfl) (Nat.le_of_ble_eq_true rfl) in_X8 tyX8 tyX8_ok nmX8 cl_0 32 (by decide) q1941 (fun _ h => h) rfl hnm rfl (fun _ => rfl) (fun _ => rfl) rfl rfl (fun q32 w hw => ?_)
  refine v_aload_n hX dX8_init_126 rfl ?_
  refine v_bipush hX dX8_init_127 kb20 ?_
  refine v_mk (ti := 0) (a0 := (20, .inl (fun _ => 0))) hX dX8_init_129 dX8_init_131 hw q559 rfl rfl (fun _ => rfl) (by decide) (by decide +kernel) (Nat.le_of_ble_eq_true rfl) (Nat.le_of_ble_eq_true rfl) (Nat.le_of_ble_eq_true rfl) in_X8 tyX8 tyX8_ok nmX8 cl_0 33 (by decide) q1942 (fun _ h => h) rfl hnm rfl (fun _ => rfl) (fun _ => rfl) rfl rfl (fun q33 w hw => ?_)
  refine v_aload_n hX dX8_init_134 rfl ?_
  refine v_bipush hX dX8_init_135 kb20 ?_
  refine v_mk (ti := 0) (a0 := (20, .inl (fun _ => 0))) hX dX8_init_137 dX8_init_139 hw q559 rfl rfl (fun _ => rfl) (by decide) (by decide +kernel) (Nat.le_of_ble_eq_true rfl) (Nat.le_of_ble_eq_true rfl) (Nat.le_of_ble_eq_true rfl) in_X8 tyX8 tyX8_ok nmX8 cl_0 34 (by decide) q1943 (fun _ h => h) rfl hnm rfl (fun _ => rfl) (fun _ => rfl) rfl rfl (fun q34 w hw => ?_)
  refine v_aload_n hX dX8_init_142 rfl ?_
  refine v_bipush hX dX8_init_143 kb20 ?_
  refine v_mk (ti := 0) (a0 := (20, .inl (fun _ => 0))) hX dX8_init_145 dX8_init_147 hw q559 rfl rfl (fun _ => rfl) (by decide) (by decide +kernel) (Nat.le_of_ble_eq_true rfl) (Nat.le_of_ble_eq_true rfl) (Nat.le_of_ble_eq_true rfl) in_X8 tyX8 tyX8_ok nmX8 cl_0 35 (by decide) q1944 (fun _ h => h) rfl hnm rfl (fun _ => rfl) (fun _ => rfl) rfl rfl (fun q35 w hw => ?_)
  refine v_aload_n hX dX8_init_150 rfl ?_
  refine v_bipush hX dX8_init_151 kb20 ?_
  refine v_mk (ti := 0) (a0 := (20, .inl (fun _ => 0))) hX dX8_init_153 dX8_init_155 hw q559 rfl rfl (fun _ => rfl) (by decide) (by decide +kernel) (Nat.le_of_ble_eq_true rfl) (Nat.le_of_ble_eq_true rfl) (Nat.le_of_ble_eq_true rfl) in_X8 tyX8 tyX8_ok nmX8 cl_0 36 (by decide) q1945 (fun _ h => h) rfl hnm rfl (fun _ => rfl) (fun _ => rfl) rfl rfl (fun q36 w hw => ?_)
  refine v_aload_n hX dX8_init_158 rfl ?_
  refine v_bipush hX dX8_init_159 kb20 ?_
  refine v_mk (ti := 0) (a0 := (20, .inl (fun _ => 0))) hX dX8_init_161 dX8_init_163 hw q559 rfl rfl (fun _ => rfl) (by decide) (by decide +kernel) (Nat.le_of_ble_eq_true rfl) (Nat.le_of_ble_eq_true rfl) (Nat.le_of_ble_eq_true rfl) in_X8 tyX8 tyX8_ok nmX8 cl_0 37 (by decide) q1946 (fun _ h => h) rfl hnm rfl (fun _ => rfl) (fun _ => rfl) rfl rfl (fun q37 w hw => ?_)
  refine v_aload_n hX dX8_init_166 rfl ?_
  refine v_bipush hX dX8_init_167 kb20 ?_
  refine v_mk (ti := 0) (a0 := (20, .inl (fun _ => 0))) hX dX8_init_169 dX8_init_171 hw q559 rfl rfl (fun _ => rfl) (by decide) (by decide +kernel) (Nat.le_of_ble_eq_true rfl) (Nat.le_of_ble_eq_true rfl) (Nat.le_of_ble_eq_true rfl) in_X8 tyX8 tyX8_ok nmX8 cl_0 38 (by decide) q1947 (fun _ h => h) rfl hnm rfl (fun _ => rfl) (fun _ => rfl) rfl rfl (fun q38 w hw => ?_)
  refine v_aload_n hX dX8_init_174 rfl ?_
  refine v_bipush hX dX8_init_175 kb20 ?_
  refine v_mk (ti := 0) (a0 := (20, .inl (fun _ => 0))) hX dX8_init_177 dX8_init_179 hw q559 rfl rfl (fun _ => rfl) (by decide) (by decide +kernel) (Nat.le_of_ble_eq_true rfl) (Nat.le_of_ble_eq_true rfl) (Nat.le_of_ble_eq_true rfl) in_X8 tyX8 tyX8_ok nmX8 cl_0 39 (by decide) q1948 (fun _ h => h) rfl hnm rfl (fun _ => rfl) (fun _ => rfl) rfl rfl (fun q39 w hw => ?_)
  refine v_aload_n hX dX8_init_182 rfl ?_
  refine v_bipush hX dX8_init_183 kb20 ?_
  refine v_mk (ti := 0) (a0 := (20, .inl (fun _ => 0))) hX dX8_init_185 dX8_init_187 hw q559 rfl rfl (fun _ => rfl) (by decide) (by decide +kernel) (Nat.le_of_ble_eq_true rfl) (Nat.le_of_ble_eq_true rfl) (Nat.le_of_ble_eq_true rfl) in_X8 tyX8 tyX8_ok nmX8 cl_0 40 (by decide) q1949 (fun _ h => h) rfl hnm rfl (fun _ => rfl) (fun _ => rfl) rfl rfl (fun q40 w hw => ?_)
  refine v_aload_n hX dX8_init_190 rfl ?_
  refine v_bipush hX dX8_init_191 kb20 ?_
  refine v_mk (ti := 0) (a0 := (20, .inl (fun _ => 0))) hX dX8_init_193 dX8_init_195 hw q559 rfl rfl (fun _ => rfl) (by decide) (by decide +kernel) (Nat.le_of_ble_eq_true rfl) (Nat.le_of_ble_eq_true rfl) (Nat.le_of_ble_eq_true rfl) in_X8 tyX8 tyX8_ok nmX8 cl_0 41 (by decide) q1950 (fun _ h => h) rfl hnm rfl (fun _ => rfl) (fun _ => rfl) rfl rfl (fun q41 w hw => ?_)
  refine v_aload_n hX dX8_init_198 rfl ?_
  refine v_bipush hX dX8_init_199 kb20 ?_
  refine v_mk (ti := 0) (a0 := (20, .inl (fun _ => 0))) hX dX8_init_201 dX8_init_203 hw q559 rfl rfl (fun _ => rfl) (by decide) (by decide +kernel) (Nat.le_of_ble_eq_true rfl) (Nat.le_of_ble_eq_true rfl) (Nat.le_of_ble_eq_true rfl) in_X8 tyX8 tyX8_ok nmX8 cl_0 42 (by decide) q1951 (fun _ h => h) rfl hnm rfl (fun _ => rfl) (fun _ => rfl) rfl rfl (fun q42 w hw => ?_)
  refine v_aload_n hX dX8_init_206 rfl ?_
  refine v_iconst hX dX8_init_207 ki3 ?_
  refine v_mk (ti := 0) (a0 := (3, .inl (fun _ => 0))) hX dX8_init_208 dX8_init_210 hw q559 rfl rfl (fun _ => rfl) (by decide) (by decide +kernel) (Nat.le_of_ble_eq_true rfl) (Nat.le_of_ble_eq_true rfl) (Nat.le_of_ble_eq_true rfl) in_X8 tyX8 tyX8_ok nmX8 cl_0 43 (by decide) q1952 (fun _ h => h) rfl hnm rfl (fun _ => rfl) (fun _ => rfl) rfl rfl (fun q43 w hw => ?_)
  refine v_aload_n hX dX8_init_213 rfl ?_
  refine v_iconst hX dX8_init_214 ki3 ?_
  refine v_mk (ti := 0) (a0 := (3, .inl (fun _ => 0))) hX dX8_init_215 dX8_init_217 hw q559 rfl rfl (fun _ => rfl) (by decide) (by decide +kernel) (Nat.le_of_ble_eq_true rfl) (Nat.le_of_ble_eq_true rfl) (Nat.le_of_ble_eq_true rfl) in_X8 tyX8 tyX8_ok nmX8 cl_0 44 (by decide) q1953 (fun _ h => h) rfl hnm rfl (fun _ => rfl) (fun _ => rfl) rfl rfl (fun q44 w hw => ?_)
  refine v_aload_n hX dX8_init_220 rfl ?_
  refine v_iconst hX dX8_init_221 ki3 ?_
  refine v_mk (ti := 0) (a0 := (3, .inl (fun _ => 0))) hX dX8_init_222 dX8_init_224 hw q559 rfl rfl (fun _ => rfl) (by decide) (by decide +kernel) (Nat.le_of_ble_eq_true rfl) (Nat.le_of_ble_eq_true rfl) (Nat.le_of_ble_eq_true rfl) in_X8 tyX8 tyX8_ok nmX8 cl_0 45 (by decide) q1954 (fun _ h => h) rfl hnm rfl (fun _ => rfl) (fun _ => rfl) rfl rfl (fun q45 w hw => ?_)
  refine v_aload_n hX dX8_init_227 rfl ?_
  refine v_iconst hX dX8_init_228 ki3 ?_
  refine v_mk (ti := 0) (a0 := (3, .inl (fun _ => 0))) hX dX8_init_229 dX8_init_231 hw q559 rfl rfl (fun _ => rfl) (by decide) (by decide +kernel) (Nat.le_of_ble_eq_true rfl) (Nat.le_of_ble_eq_true rfl) (Nat.le_of_ble_eq_true rfl) in_X8 tyX8 tyX8_ok nmX8 cl_0 46 (by decide) q1955 (fun _ h => h) rfl hnm rfl (fun _ => rfl) (fun _ => rfl) rfl rfl (fun q46 w hw => ?_)
  refine v_aload_n hX dX8_init_234 rfl ?_
  refine v_iconst hX dX8_init_235 ki4 ?_
  refine v_mk (ti := 0) (a0 := (4, .inl (fun _ => 0))) hX dX8_init_236 dX8_init_238 hw q559 rfl rfl (fun _ => rfl) (by decide) (by decide +kernel) (Nat.le_of_ble_eq_true rfl) (Nat.le_of_ble_eq_true rfl) (Nat.le_of_ble_eq_true rfl) in_X8 tyX8 tyX8_ok nmX8 cl_0 47 (by decide) q1956 (fun _ h => h) rfl hnm rfl (fun _ => rfl) (fun _ => rfl) rfl rfl (fun q47 w hw => ?_)
  refine v_aload_n hX dX8_init_241 rfl ?_
  refine v_iconst hX dX8_init_242 ki4 ?_
  refine v_mk (ti := 0) (a0 := (4, .inl (fun _ => 0))) hX dX8_init_243 dX8_init_245 hw q559 rfl rfl (fun _ => rfl) (by decide) (by decide +kernel) (Nat.le_of_ble_eq_true rfl) (Nat.le_of_ble_eq_true rfl) (Nat.le_of_ble_eq_true rfl) in_X8 tyX8 tyX8_ok nmX8 cl_0 48 (by decide) q1957 (fun _ h => h) rfl hnm rfl (fun _ => rfl) (fun _ => rfl) rfl rfl (fun q48 w hw => ?_)
  refine v_aload_n hX dX8_init_248 rfl ?_
  refine v_iconst hX dX8_init_249 ki4 ?_
  refine v_mk (ti := 0) (a0 := (4, .inl (fun _ => 0))) hX dX8_init_250 dX8_init_252 hw q559 rfl rfl (fun _ => rfl) (by decide) (by decide +kernel) (Nat.le_of_ble_eq_true rfl) (Nat.le_of_ble_eq_true rfl) (Nat.le_of_ble_eq_true rfl) in_X8 tyX8 tyX8_ok nmX8 cl_0 49 (by decide) q1958 (fun _ h => h) rfl hnm rfl (fun _ => rfl) (fun _ => rfl) rfl rfl (fun q49 w hw => ?_)
  refine v_aload_n hX dX8_init_255 rfl ?_
  refine v_iconst hX dX8_init_256 ki4 ?_
  refine v_mk (ti := 0) (a0 := (4, .inl (fun _ => 0))) hX dX8_init_257 dX8_init_259 hw q559 rfl rfl (fun _ => rfl) (by decide) (by decide +kernel) (Nat.le_of_ble_eq_true rfl) (Nat.le_of_ble_eq_true rfl) (Nat.le_of_ble_eq_true rfl) in_X8 tyX8 tyX8_ok nmX8 cl_0 50 (by decide) q1959 (fun _ h => h) rfl hnm rfl (fun _ => rfl) (fun _ => rfl) rfl rfl (fun q50 w hw => ?_)
  refine v_aload_n hX dX8_init_262 rfl ?_
  refine v_iconst hX dX8_init_263 ki4 ?_
  refine v_mk (ti := 0) (a0 := (4, .inl (fun _ => 0))) hX dX8_init_264 dX8_init_266 hw q559 rfl rfl (fun _ => rfl) (by decide) (by decide +kernel) (Nat.le_of_ble_eq_true rfl) (Nat.le_of_ble_eq_true rfl) (Nat.le_of_ble_eq_true rfl) in_X8 tyX8 tyX8_ok nmX8 cl_0 51 (by decide) q1960 (fun _ h => h) rfl hnm rfl (fun _ => rfl) (fun _ => rfl) rfl rfl (fun q51 w hw => ?_)
  refine v_aload_n hX dX8_init_269 rfl ?_
  refine v_sipush hX dX8_init_270 ks5760 ?_
  refine v_mk (ti := 0) (a0 := (5760, .inl (fun _ => 0))) hX dX8_init_273 dX8_init_275 hw q559 rfl rfl (fun _ => rfl) (by decide) (by decide +kernel) (Nat.le_of_ble_eq_true rfl) (Nat.le_of_ble_eq_true rfl) (Nat.le_of_ble_eq_true rfl) in_X8 tyX8 tyX8_ok nmX8 cl_0 54 (by decide) q1963 (fun _ h => h) rfl hnm rfl (fun _ => rfl) (fun _ => rfl) rfl rfl (fun q54 w hw => ?_)
  refine v_aload_n hX dX8_init_278 rfl ?_
  refine v_sipush hX dX8_init_279 ks5760 ?_
  refine v_mk (ti := 0) (a0 := (5760, .inl (fun _ => 0))) hX dX8_init_282 dX8_init_284 hw q559 rfl rfl (fun _ => rfl) (by decide) (by decide +kernel) (Nat.le_of_ble_eq_true rfl) (Nat.le_of_ble_eq_true rfl) (Nat.le_of_ble_eq_true rfl) in_X8 tyX8 tyX8_ok nmX8 cl_0 55 (by decide) q1964 (fun _ h => h) rfl hnm rfl (fun _ => rfl) (fun _ => rfl) rfl rfl (fun q55 w hw => ?_)
  refine v_aload_n hX dX8_init_287 rfl ?_
  refine v_sipush hX dX8_init_288 ks1440 ?_
  refine v_mk (ti := 0) (a0 := (1440, .inl (fun _ => 0))) hX dX8_init_291 dX8_init_293 hw q559 rfl rfl (fun _ => rfl) (by decide) (by decide +kernel) (Nat.le_of_ble_eq_true rfl) (Nat.le_of_ble_eq_true rfl) (Nat.le_of_ble_eq_true rfl) in_X8 tyX8 tyX8_ok nmX8 cl_0 56 (by decide) q1965 (fun _ h => h) rfl hnm rfl (fun _ => rfl) (fun _ => rfl) rfl rfl (fun q56 w hw => ?_)
  refine v_aload_n hX dX8_init_296 rfl ?_
  refine v_sipush hX dX8_init_297 ks1440 ?_
  refine v_mk (ti := 0) (a0 := (1440, .inl (fun _ => 0))) hX dX8_init_300 dX8_init_302 hw q559 rfl rfl (fun _ => rfl) (by decide) (by decide +kernel) (Nat.le_of_ble_eq_true rfl) (Nat.le_of_ble_eq_true rfl) (Nat.le_of_ble_eq_true rfl) in_X8 tyX8 tyX8_ok nmX8 cl_0 57 (by decide) q1966 (fun _ h => h) rfl hnm rfl (fun _ => rfl) (fun _ => rfl) rfl rfl (fun q57 w hw => ?_)
  generalize hGo : (va_up (va_up (va_up (va_up (va_up (va_up (va_up (va_up (va_up (va_up (va_up (va_up (va_up (va_up (va_up (va_up (va_up (va_up (va_up (va_up (va_up (va_up (va_up (va_up (va_up (va_up (va_up (va_up (va_up (va_up (va_up (va_up (va_up (va_up (va_up (va_up (va_up (va_up (fun _ => none) 1 (some q1)) 6 (some q6)) 7 (some q7)) 8 (some q8)) 9 (some q9)) 10 (some q10)) 11 (some q11)) 12 (some q12)) 14 (some q14)) 15 (some q15)) 18 (some q18)) 29 (some q29)) 30 (some q30)) 31 (some q31)) 32 (some q32)) 33 (some q33)) 34 (some q34)) 35 (some q35)) 36 (some q36)) 37 (some q37)) 38 (some q38)) 39 (some q39)) 40 (some q40)) 41 (some q41)) 42 (some q42)) 43 (some q43)) 44 (some q44)) 45 (some q45)) 46 (some q46)) 47 (some q47)) 48 (some q48)) 49 (some q49)) 50 (some q50)) 51 (some q51)) 54 (some q54)) 55 (some q55)) 56 (some q56)) 57 (some q57)) = Go at hw
  have hG1 : ∀ j, j < 61 → tkl.getD j 0 = 2 → ∃ g, Go j = some g := by
    intro j hj hk
    rw [← hGo]
    match j, hj, hk with
    | 0, _, h => exact absurd h (by decide)
    | 1, _, h => exact ⟨q1, rfl⟩
    | 2, _, h => exact absurd h (by decide)
    | 3, _, h => exact absurd h (by decide)
    | 4, _, h => exact absurd h (by decide)
    | 5, _, h => exact absurd h (by decide)
    | 6, _, h => exact ⟨q6, rfl⟩
    | 7, _, h => exact ⟨q7, rfl⟩
    | 8, _, h => exact ⟨q8, rfl⟩
    | 9, _, h => exact ⟨q9, rfl⟩
    | 10, _, h => exact ⟨q10, rfl⟩
    | 11, _, h => exact ⟨q11, rfl⟩
    | 12, _, h => exact ⟨q12, rfl⟩
    | 13, _, h => exact absurd h (by decide)
    | 14, _, h => exact ⟨q14, rfl⟩
    | 15, _, h => exact ⟨q15, rfl⟩
    | 16, _, h => exact absurd h (by decide)
    | 17, _, h => exact absurd h (by decide)
    | 18, _, h => exact ⟨q18, rfl⟩
    | 19, _, h => exact absurd h (by decide)
    | 20, _, h => exact absurd h (by decide)
    | 21, _, h => exact absurd h (by decide)
    | 22, _, h => exact absurd h (by decide)
    | 23, _, h => exact absurd h (by decide)
    | 24, _, h => exact absurd h (by decide)
    | 25, _, h => exact absurd h (by decide)
    | 26, _, h => exact absurd h (by decide)
    | 27, _, h => exact absurd h (by decide)
    | 28, _, h => exact absurd h (by decide)
    | 29, _, h => exact ⟨q29, rfl⟩
    | 30, _, h => exact ⟨q30, rfl⟩
    | 31, _, h => exact ⟨q31, rfl⟩
    | 32, _, h => exact ⟨q32, rfl⟩
    | 33, _, h => exact ⟨q33, rfl⟩
    | 34, _, h => exact ⟨q34, rfl⟩
    | 35, _, h => exact ⟨q35, rfl⟩
    | 36, _, h => exact ⟨q36, rfl⟩
    | 37, _, h => exact ⟨q37, rfl⟩
    | 38, _, h => exact ⟨q38, rfl⟩
    | 39, _, h => exact ⟨q39, rfl⟩
    | 40, _, h => exact ⟨q40, rfl⟩
    | 41, _, h => exact ⟨q41, rfl⟩
    | 42, _, h => exact ⟨q42, rfl⟩
    | 43, _, h => exact ⟨q43, rfl⟩
    | 44, _, h => exact ⟨q44, rfl⟩
    | 45, _, h => exact ⟨q45, rfl⟩
    | 46, _, h => exact ⟨q46, rfl⟩
    | 47, _, h => exact ⟨q47, rfl⟩
    | 48, _, h => exact ⟨q48, rfl⟩
    | 49, _, h => exact ⟨q49, rfl⟩
    | 50, _, h => exact ⟨q50, rfl⟩
    | 51, _, h => exact ⟨q51, rfl⟩
    | 52, _, h => exact absurd h (by decide)
    | 53, _, h => exact absurd h (by decide)
    | 54, _, h => exact ⟨q54, rfl⟩
    | 55, _, h => exact ⟨q55, rfl⟩
    | 56, _, h => exact ⟨q56, rfl⟩
    | 57, _, h => exact ⟨q57, rfl⟩
    | 58, _, h => exact absurd h (by decide)
    | 59, _, h => exact absurd h (by decide)
    | 60, _, h => exact absurd h (by decide)
    | n + 61, h, _ => omega
  have hG2 : ∀ j, j < 61 → tkl.getD j 0 ≠ 2 → Go j = none := by
    intro j hj hk
    rw [← hGo]
    match j, hj, hk with
    | 0, _, h => rfl
    | 1, _, h => exact absurd rfl h
    | 2, _, h => rfl
    | 3, _, h => rfl
    | 4, _, h => rfl
    | 5, _, h => rfl
    | 6, _, h => exact absurd rfl h
    | 7, _, h => exact absurd rfl h
    | 8, _, h => exact absurd rfl h
    | 9, _, h => exact absurd rfl h
    | 10, _, h => exact absurd rfl h
    | 11, _, h => exact absurd rfl h
    | 12, _, h => exact absurd rfl h
    | 13, _, h => rfl
    | 14, _, h => exact absurd rfl h
    | 15, _, h => exact absurd rfl h
    | 16, _, h => rfl
    | 17, _, h => rfl
    | 18, _, h => exact absurd rfl h
    | 19, _, h => rfl
    | 20, _, h => rfl
    | 21, _, h => rfl
    | 22, _, h => rfl
    | 23, _, h => rfl
    | 24, _, h => rfl
    | 25, _, h => rfl
    | 26, _, h => rfl
    | 27, _, h => rfl
    | 28, _, h => rfl
    | 29, _, h => exact absurd rfl h
    | 30, _, h => exact absurd rfl h
    | 31, _, h => exact absurd rfl h
    | 32, _, h => exact absurd rfl h
    | 33, _, h => exact absurd rfl h
    | 34, _, h => exact absurd rfl h
    | 35, _, h => exact absurd rfl h
    | 36, _, h => exact absurd rfl h
    | 37, _, h => exact absurd rfl h
    | 38, _, h => exact absurd rfl h
    | 39, _, h => exact absurd rfl h
    | 40, _, h => exact absurd rfl h
    | 41, _, h => exact absurd rfl h
    | 42, _, h => exact absurd rfl h
    | 43, _, h => exact absurd rfl h
    | 44, _, h => exact absurd rfl h
    | 45, _, h => exact absurd rfl h
    | 46, _, h => exact absurd rfl h
    | 47, _, h => exact absurd rfl h
    | 48, _, h => exact absurd rfl h
    | 49, _, h => exact absurd rfl h
    | 50, _, h => exact absurd rfl h
    | 51, _, h => exact absurd rfl h
    | 52, _, h => rfl
    | 53, _, h => rfl
    | 54, _, h => exact absurd rfl h
    | 55, _, h => exact absurd rfl h
    | 56, _, h => exact absurd rfl h
    | 57, _, h => exact absurd rfl h
    | 58, _, h => rfl
    | 59, _, h => rfl
    | 60, _, h => rfl
    | n + 61, h, _ => omega
  have hG3 : ∀ j, 61 ≤ j → Go j = none := by
    intro j hj
    rw [← hGo]
    simp only [va_up]
    simp [show ¬ j = 1 by omega, show ¬ j = 6 by omega, show ¬ j = 7 by omega, show ¬ j = 8 by omega, show ¬ j = 9 by omega, show ¬ j = 10 by omega, show ¬ j = 11 by omega, show ¬ j = 12 by omega, show ¬ j = 14 by omega, show ¬ j = 15 by omega, show ¬ j = 18 by omega, show ¬ j = 29 by omega, show ¬ j = 30 by omega, show ¬ j = 31 by omega, show ¬ j = 32 by omega, show ¬ j = 33 by omega, show ¬ j = 34 by omega, show ¬ j = 35 by omega, show ¬ j = 36 by omega, show ¬ j = 37 by omega, show ¬ j = 38 by omega, show ¬ j = 39 by omega, show ¬ j = 40 by omega, show ¬ j = 41 by omega, show ¬ j = 42 by omega, show ¬ j = 43 by omega, show ¬ j = 44 by omega, show ¬ j = 45 by omega, show ¬ j = 46 by omega, show ¬ j = 47 by omega, show ¬ j = 48 by omega, show ¬ j = 49 by omega, show ¬ j = 50 by omega, show ¬ j = 51 by omega, show ¬ j = 54 by omega, show ¬ j = 55 by omega, show ¬ j = 56 by omega, show ¬ j = 57 by omega]
  obtain ⟨G, g1, hw2⟩ := tW_of hw hG1 hG2 hG3
  subst g1
  refine v_aload_n hX dX8_init_305 rfl ?_
  refine v_iconst hX dX8_init_306 kim1 ?_
  refine tv_putI hX dX8_init_307 hw2 17 (by decide) rfl q1926 rfl (by decide +kernel) (fun w hw => ?_)
  refine v_aload_n hX dX8_init_310 rfl ?_
  refine tv_call0 hX rfl dX8_init_311 q1897 cf_X8_beginReading hw (mX8_beginReading hw) rfl ⟨rfl, rfl⟩ ⟨Nat.le_of_ble_eq_true rfl, Nat.le_of_ble_eq_true rfl⟩ rfl (Nat.le_of_ble_eq_true rfl) ⟨Nat.le_of_ble_eq_true rfl, Nat.le_of_ble_eq_true rfl⟩ (fun w hw => ?_)
  refine v_aload_n hX dX8_init_314 rfl ?_
  refine tv_call0 hX rfl dX8_init_315 q1901 cf_X8_keepReading hw (mX8_keepReading hw br_R) rfl ⟨rfl, rfl⟩ ⟨Nat.le_of_ble_eq_true rfl, Nat.le_of_ble_eq_true rfl⟩ rfl (Nat.le_of_ble_eq_true rfl) ⟨Nat.le_of_ble_eq_true rfl, Nat.le_of_ble_eq_true rfl⟩ (fun w hw => ?_)
  exact v_vret hX dX8_init_318 hR (Nat.le_of_ble_eq_true rfl) (Nat.le_of_ble_eq_true rfl) ⟨rfl, G, rfl, hw⟩
