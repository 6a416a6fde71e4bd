/-! THE RING: what only reads its numbers -/
set_option maxRecDepth 100000
/-- a ring's object and its three arrays -/
def RO (G : GT) (h : PH) (r : Nat) (B : Nat → Nat) (w nb : Nat) (q L S : Nat → Int32) (J : Nat → Bool) : Prop :=
  h r = some ((r, 0), ob 1 [.ref (B 0), .ref (B 1), .ref (B 2), .ref (B 3), .ref (B 4), .int (nI w), .int (nI nb), .int (q 0), .int (q 1), .int (q 2), .int (q 3)]) ∧ h (B 2) = some ((r, 3), ia G 12 L) ∧ (∃ JJ, h (B 3) = some ((r, 4), za G 12 JJ) ∧ ∀ d, d < 12 → JJ d = bI (J d)) ∧ h (B 4) = some ((r, 5), ia G 3 S)
theorem RO.fr {P : Ow → Prop} {G : GT} {h h' : PH} {r : Nat} {B : Nat → Nat} {w nb : Nat} {q L S : Nat → Int32} {J : Nat → Bool} (hR : RO G h r B w nb q L S J) (z : fr P h h') (n : ∀ i, i = 0 ∨ 3 ≤ i ∧ i ≤ 5 → ¬ P (r, i)) : RO G h' r B w nb q L S J := by
  obtain ⟨h1, h2, ⟨JJ, h3, h4⟩, h5⟩ := hR
  exact ⟨z _ _ _ h1 (n 0 (by omega)), z _ _ _ h2 (n 3 (by omega)), ⟨JJ, z _ _ _ h3 (n 4 (by omega)), h4⟩, z _ _ _ h5 (n 5 (by omega))⟩
/-- whether steps are free, by loads -/
def opnR (L S : Nat → Int32) (w st b : Nat) : Bool := opn (imbR L) (S 0) w st b
def wayR (L S : Nat → Int32) (w d : Nat) : Int32 := wayP (imbR L) (S 0) w d
theorem abs_if (x : Int32) : (if 0 ≤ x then x else 0 - x) = absI x := by
  unfold absI
  by_cases q : 0 ≤ x
  · rw [if_pos q, if_neg (i32_nlt.mpr q)]
  · rw [if_neg q, if_pos (i32_nle.mp q), Int32.zero_sub]
section RG
variable {G : GT} {h : PH} {r w nb : Nat} {B : Nat → Nat} {q L S : Nat → Int32} {J : Nat → Bool}
theorem c_X2_place (hR : RO G h r B w nb q L S J) (d w' : Nat) (hd : d < 12) (hw : w' < 12) : CT G yX2_place cX2_place 3 (some .int) (rmL 1 0 0) [.ref r, .int (nI d), .int (nI w')] h (fun v h' => v = some (.int (nI (plc d w'))) ∧ h = h') noX := by
  refine CT_of [some (.ref r), some (.int (nI d)), some (.int (nI w'))] (by decide +kernel) rfl (Nat.le_of_ble_eq_true rfl) (fun X hC hF hE => ?_)
  refine go_iload_n hC dX2_place_0 rfl ?_
  refine go_iload_n hC dX2_place_1 rfl ?_
  refine go_isub hC dX2_place_2 ?_
  refine go_bipush hC (nI 12) dX2_place_3 (by decide) ?_
  refine go_iadd hC dX2_place_5 ?_
  refine go_bipush hC (nI 12) dX2_place_6 (by decide) ?_
  refine go_irem hC dX2_place_8 (by decide) ?_
  refine go_iret hC hF dX2_place_9 rfl rfl ?_
  exact ⟨by rw [nI_plc hd hw], rfl⟩
theorem c_X2_imbalance (hR : RO G h r B w nb q L S J) (w' : Nat) (hw : w' < 12) : CT G yX2_imbalance cX2_imbalance 4 (some .int) (rmL 1 0 0) [.ref r, .int (nI w')] h (fun v h' => v = some (.int (imbR L w')) ∧ h = h') noX := by
  refine CT_of [some (.ref r), some (.int (nI w')), none, none] (by decide +kernel) rfl (Nat.le_of_ble_eq_true rfl) (fun X hC hF hE => ?_)
  have e1 : ∀ k, k ≤ 5 → nI w' + nI k - (nI w' + nI k) / nI 12 * nI 12 = nI ((w' + k) % 12) := fun k hk => by
    rw [nI_add, pk_rem (by omega) (by omega) (by omega)]
  have e2 : ∀ k, k ≤ 5 → nI w' + nI 6 + nI k - (nI w' + nI 6 + nI k) / nI 12 * nI 12 = nI ((w' + 6 + k) % 12) := fun k hk => by
    rw [nI_add, nI_add, pk_rem (by omega) (by omega) (by omega)]
  have loop : ∀ (k : Nat) (a : Int32), 1 ≤ k → k ≤ 6 → (List.range' k (6 - k)).foldl (fun a k => a + (L ((w' + k) % 12) - L ((w' + 6 + k) % 12))) a = (List.range' 1 5).foldl (fun a k => a + (L ((w' + k) % 12) - L ((w' + 6 + k) % 12))) 0 → Go X G h 0 0 4 [some (.ref r), some (.int (nI w')), some (.int a), some (.int (nI k))] [] := by
    refine lpB (fun k _ => 6 - k) (fun k a ih h1 h6 ha => ?_)
    refine go_iload_n hC dX2_imbalance_4 rfl ?_
    refine go_iconst hC (nI 5) dX2_imbalance_5 (by decide) ?_
    refine go_N_gt hC 44 dX2_imbalance_6 (by decide) rfl rfl (by omega) (by omega) (fun c6 => ?_) (fun c6 => ?_)
    · rw [rg_e (by omega)] at ha
      refine go_iload_n hC dX2_imbalance_44 rfl ?_
      refine go_abs hC q1110 q1111 q90 q1112 ⟨Nat.le_of_ble_eq_true rfl, Nat.le_of_ble_eq_true rfl⟩ (Nat.le_of_ble_eq_true rfl) dX2_imbalance_45 ?_
      refine go_iret hC hF dX2_imbalance_48 rfl rfl ?_
      exact ⟨by rw [imbR, ← ha]; exact congrArg some (congrArg Value.int (abs_if _)), rfl⟩
    · rw [rg_c (by omega), List.foldl_cons] at ha
      have m1 := Nat.mod_lt (w' + k) (show 0 < 12 by omega)
      have m2 := Nat.mod_lt (w' + 6 + k) (show 0 < 12 by omega)
      refine go_iload_n hC dX2_imbalance_9 rfl ?_
      refine go_aload_n hC dX2_imbalance_10 rfl ?_
      refine go_get hC kX2 hR.1 2 q187 dX2_imbalance_11 rfl (by decide) (Or.inl rfl) ?_
      refine go_iload_n hC dX2_imbalance_14 rfl ?_
      refine go_iload_n hC dX2_imbalance_15 rfl ?_
      refine go_iadd hC dX2_imbalance_16 ?_
      refine go_bipush hC (nI 12) dX2_imbalance_17 (by decide) ?_
      refine go_irem hC dX2_imbalance_19 (by decide) ?_
      rw [e1 k c6]
      refine go_iald hC ((w'+k)%12) hR.2.1 dX2_imbalance_20 (by first | rfl | (simp only [nI_add, pk_mul, nI_1, Int32.add_zero]; done) | (simp only [nI_add, pk_mul, nI_1, Int32.add_zero]; exact congrArg nI (by omega))) (by omega) (by omega) ?_
      refine go_aload_n hC dX2_imbalance_21 rfl ?_
      refine go_get hC kX2 hR.1 2 q187 dX2_imbalance_22 rfl (by decide) (Or.inl rfl) ?_
      refine go_iload_n hC dX2_imbalance_25 rfl ?_
      refine go_bipush hC (nI 6) dX2_imbalance_26 (by decide) ?_
      refine go_iadd hC dX2_imbalance_28 ?_
      refine go_iload_n hC dX2_imbalance_29 rfl ?_
      refine go_iadd hC dX2_imbalance_30 ?_
      refine go_bipush hC (nI 12) dX2_imbalance_31 (by decide) ?_
      refine go_irem hC dX2_imbalance_33 (by decide) ?_
      rw [e2 k c6]
      refine go_iald hC ((w'+6+k)%12) hR.2.1 dX2_imbalance_34 (by first | rfl | (simp only [nI_add, pk_mul, nI_1, Int32.add_zero]; done) | (simp only [nI_add, pk_mul, nI_1, Int32.add_zero]; exact congrArg nI (by omega))) (by omega) (by omega) ?_
      refine go_isub hC dX2_imbalance_35 ?_
      refine go_iadd hC dX2_imbalance_36 ?_
      refine go_istore_n hC dX2_imbalance_37 (by decide) ?_
      refine go_iinc hC (v := nI (k + 1)) dX2_imbalance_38 rfl (nI_1 _) (by decide) ?_
      refine go_goto hC 4 dX2_imbalance_41 (by decide) ?_
      exact ih (k + 1) _ (by omega) (by omega) (by omega) ha
  refine go_iconst hC (0) dX2_imbalance_0 (by decide) ?_
  refine go_istore_n hC dX2_imbalance_1 (by decide) ?_
  refine go_iconst hC (1) dX2_imbalance_2 (by decide) ?_
  refine go_istore_n hC dX2_imbalance_3 (by decide) ?_
  exact loop 1 0 (Nat.le_refl _) (by omega) rfl
theorem c_X2_isBalanced (hR : RO G h r B w nb q L S J) (hw : w < 12) : CT G yX2_isBalanced cX2_isBalanced 1 (some .boolean) (rmL 2 0 0) [.ref r] h (fun v h' => v = some (.int (bI (decide (imbR L w ≤ S 0)))) ∧ h = h') noX := by
  refine CT_of [some (.ref r)] (by decide +kernel) rfl (Nat.le_of_ble_eq_true rfl) (fun X hC hF hE => ?_)
  refine go_aload_n hC dX2_isBalanced_0 rfl ?_
  refine go_aload_n hC dX2_isBalanced_1 rfl ?_
  refine go_get hC kX2 hR.1 5 q195 dX2_isBalanced_2 rfl (by decide) (Or.inl rfl) ?_
  refine go_callV0 hC (c_X2_imbalance hR w hw) (lw_V q1106 q1107 q1108 q73 q1109) hR.1 rfl dX2_isBalanced_5 1 rfl (by decide +kernel) rfl ⟨Nat.le_of_ble_eq_true rfl, Nat.le_of_ble_eq_true rfl⟩ (Nat.le_of_ble_eq_true rfl) ⟨rfl, rfl⟩ ?_
  rintro _ _ ⟨rfl, rfl⟩
  refine go_aload_n hC dX2_isBalanced_8 rfl ?_
  refine go_get hC kX2 hR.1 4 q193 dX2_isBalanced_9 rfl (by decide) (Or.inl rfl) ?_
  refine go_iconst hC (0) dX2_isBalanced_12 (by decide) ?_
  refine go_iald hC 0 hR.2.2.2 dX2_isBalanced_13 (by first | rfl | (simp only [nI_add, pk_mul, nI_1, Int32.add_zero]; done) | (simp only [nI_add, pk_mul, nI_1, Int32.add_zero]; exact congrArg nI (by omega))) (by omega) (by omega) ?_
  refine go_icmp_gt hC 21 dX2_isBalanced_14 (by decide) (fun c14 => ?_) (fun c14 => ?_)
  · refine go_iconst hC (0) dX2_isBalanced_21 (by decide) ?_
    refine go_iret hC hF dX2_isBalanced_22 rfl rfl ?_
    exact ⟨by rw [decide_eq_false (i32_nle.mpr c14)]; rfl, rfl⟩
  · refine go_iconst hC (1) dX2_isBalanced_17 (by decide) ?_
    refine go_goto hC 22 dX2_isBalanced_18 (by decide) ?_
    refine go_iret hC hF dX2_isBalanced_22 rfl rfl ?_
    exact ⟨by rw [decide_eq_true (i32_nlt.mp c14)]; rfl, rfl⟩
theorem c_X2_worst (hR : RO G h r B w nb q L S J) : CT G yX2_worst cX2_worst 3 (some .int) (rmL 2 0 0) [.ref r] h (fun v h' => v = some (.int (top12 (imbR L))) ∧ h = h') noX := by
  refine CT_of [some (.ref r), none, none] (by decide +kernel) rfl (Nat.le_of_ble_eq_true rfl) (fun X hC hF hE => ?_)
  have loop : ∀ (i : Nat) (a : Int32), i ≤ 12 → (List.range' i (12 - i)).foldl (fun a w => maxI a (imbR L w)) a = top12 (imbR L) → Go X G h 0 0 4 [some (.ref r), some (.int a), some (.int (nI i))] [] := by
    refine lpB (fun i _ => 12 - i) (fun i a ih hi ha => ?_)
    refine go_iload_n hC dX2_worst_4 rfl ?_
    refine go_bipush hC (nI 12) dX2_worst_5 (by decide) ?_
    refine go_N_ge hC 26 dX2_worst_7 (by decide) rfl rfl (by omega) (by omega) (fun c7 => ?_) (fun c7 => ?_)
    · rw [rg_e c7] at ha
      refine go_iload_n hC dX2_worst_26 rfl ?_
      refine go_iret hC hF dX2_worst_27 rfl rfl ?_
      exact ⟨by rw [← ha]; rfl, rfl⟩
    · rw [rg_c c7, List.foldl_cons] at ha
      refine go_iload_n hC dX2_worst_10 rfl ?_
      refine go_aload_n hC dX2_worst_11 rfl ?_
      refine go_iload_n hC dX2_worst_12 rfl ?_
      refine go_callV0 hC (c_X2_imbalance hR i c7) (lw_V q1106 q1107 q1108 q73 q1109) hR.1 rfl dX2_worst_13 1 rfl (by decide +kernel) rfl ⟨Nat.le_of_ble_eq_true rfl, Nat.le_of_ble_eq_true rfl⟩ (Nat.le_of_ble_eq_true rfl) ⟨rfl, rfl⟩ ?_
      rintro _ _ ⟨rfl, rfl⟩
      refine go_max hC q1149 q335 q90 q336 ⟨Nat.le_of_ble_eq_true rfl, Nat.le_of_ble_eq_true rfl⟩ (Nat.le_of_ble_eq_true rfl) dX2_worst_16 ?_
      refine go_istore_n hC dX2_worst_19 (by decide) ?_
      refine go_iinc hC (v := nI (i + 1)) dX2_worst_20 rfl (nI_1 _) (by decide) ?_
      refine go_goto hC 4 dX2_worst_23 (by decide) ?_
      exact ih (i + 1) _ (by omega) (by omega) ha
  refine go_iconst hC (0) dX2_worst_0 (by decide) ?_
  refine go_istore_n hC dX2_worst_1 (by decide) ?_
  refine go_iconst hC (0) dX2_worst_2 (by decide) ?_
  refine go_istore_n hC dX2_worst_3 (by decide) ?_
  exact loop 0 0 (Nat.zero_le _) rfl
theorem c_X2_isOpen (hR : RO G h r B w nb q L S J) (hw : w < 12) (s b : Nat) (y : Int32) (hs : s ≤ 12) (hb : b = 1 ∧ y = 1 ∨ b = 11 ∧ y = -1) : CT G yX2_isOpen cX2_isOpen 5 (some .boolean) (rmL 2 0 0) [.ref r, .int (nI s), .int y] h (fun v h' => v = some (.int (bI (opnR L S w s b))) ∧ h = h') noX := by
  refine CT_of [some (.ref r), some (.int (nI s)), some (.int y), none, none] (by decide +kernel) rfl (Nat.le_of_ble_eq_true rfl) (fun X hC hF hE => ?_)
  have e1 : ∀ k, k ≤ 12 → nI w + y * nI k + nI 24 - (nI w + y * nI k + nI 24) / nI 12 * nI 12 = nI ((w + k * b) % 12) := fun k hk => by
    rcases hb with ⟨rfl, rfl⟩ | ⟨rfl, rfl⟩
    · have e : nI w + 1 * nI k + nI 24 = nI (w + k + 24) := by rw [← nI_add, ← nI_add]; grind
      rw [e, pk_rem (by omega) (by omega) (by omega)]
      exact congrArg nI (by omega)
    · have e : nI w + -1 * nI k + nI 24 = nI (w + 24 - k) := by
        rw [← pk_sub (a := w + 24) (b := k) (by omega), ← nI_add]
        grind
      rw [e, pk_rem (by omega) (by omega) (by omega)]
      exact congrArg nI (by omega)
  have loop : ∀ (k : Nat) (z : Bool), 1 ≤ k → k ≤ s + 1 → (z && (List.range' k (s + 1 - k)).all (fun k => decide (imbR L ((w + k * b) % 12) ≤ S 0))) = opnR L S w s b → Go X G h 0 0 5 [some (.ref r), some (.int (nI s)), some (.int y), some (.int (bI z)), some (.int (nI k))] [] := by
    refine lpB (fun k _ => s + 1 - k) (fun k z ih hk1 hk ha => ?_)
    refine go_iload hC dX2_isOpen_5 rfl ?_
    refine go_iload_n hC dX2_isOpen_7 rfl ?_
    refine go_N_gt hC 55 dX2_isOpen_8 (by decide) rfl rfl (by omega) (by omega) (fun c8 => ?_) (fun c8 => ?_)
    · rw [rg_e (by omega), List.all_nil, Bool.and_true] at ha
      refine go_iload_n hC dX2_isOpen_55 rfl ?_
      refine go_iret hC hF dX2_isOpen_56 rfl (by cases z <;> rfl) ?_
      exact ⟨by rw [ha], rfl⟩
    · rw [rg_c (by omega), List.all_cons] at ha
      refine go_iload_n hC dX2_isOpen_11 rfl ?_
      refine go_B_eq hC 55 dX2_isOpen_12 (by decide) rfl (fun c12 => ?_) (fun c12 => ?_)
      · refine go_iload_n hC dX2_isOpen_55 rfl ?_
        refine go_iret hC hF dX2_isOpen_56 rfl (by rw [c12]; rfl) ?_
        rw [c12, Bool.false_and] at ha
        exact ⟨by rw [← ha, c12], rfl⟩
      · have m1 := Nat.mod_lt (w + k * b) (show 0 < 12 by omega)
        refine go_aload_n hC dX2_isOpen_15 rfl ?_
        refine go_aload_n hC dX2_isOpen_16 rfl ?_
        refine go_get hC kX2 hR.1 5 q195 dX2_isOpen_17 rfl (by decide) (Or.inl rfl) ?_
        refine go_iload_n hC dX2_isOpen_20 rfl ?_
        refine go_iload hC dX2_isOpen_21 rfl ?_
        refine go_imul hC dX2_isOpen_23 ?_
        refine go_iadd hC dX2_isOpen_24 ?_
        refine go_bipush hC (nI 24) dX2_isOpen_25 (by decide) ?_
        refine go_iadd hC dX2_isOpen_27 ?_
        refine go_bipush hC (nI 12) dX2_isOpen_28 (by decide) ?_
        refine go_irem hC dX2_isOpen_30 (by decide) ?_
        rw [e1 k (by omega)]
        refine go_callV0 hC (c_X2_imbalance hR ((w + k * b) % 12) m1) (lw_V q1106 q1107 q1108 q73 q1109) hR.1 rfl dX2_isOpen_31 1 rfl (by decide +kernel) rfl ⟨Nat.le_of_ble_eq_true rfl, Nat.le_of_ble_eq_true rfl⟩ (Nat.le_of_ble_eq_true rfl) ⟨rfl, rfl⟩ ?_
        rintro _ _ ⟨rfl, rfl⟩
        refine go_aload_n hC dX2_isOpen_34 rfl ?_
        refine go_get hC kX2 hR.1 4 q193 dX2_isOpen_35 rfl (by decide) (Or.inl rfl) ?_
        refine go_iconst hC (0) dX2_isOpen_38 (by decide) ?_
        refine go_iald hC 0 hR.2.2.2 dX2_isOpen_39 (by first | rfl | (simp only [nI_add, pk_mul, nI_1, Int32.add_zero]; done) | (simp only [nI_add, pk_mul, nI_1, Int32.add_zero]; exact congrArg nI (by omega))) (by omega) (by omega) ?_
        refine go_icmp_gt hC 47 dX2_isOpen_40 (by decide) (fun c40 => ?_) (fun c40 => ?_)
        · refine go_iconst hC (0) dX2_isOpen_47 (by decide) ?_
          refine go_istore_n hC dX2_isOpen_48 (by decide) ?_
          refine go_iinc hC (v := nI (k + 1)) dX2_isOpen_49 rfl (nI_1 _) (by decide) ?_
          refine go_goto hC 5 dX2_isOpen_52 (by decide) ?_
          refine ih (k + 1) false (by omega) (by omega) (by omega) ?_
          rw [← ha, c12, decide_eq_false (i32_nle.mpr c40)]; simp
        · refine go_iconst hC (1) dX2_isOpen_43 (by decide) ?_
          refine go_goto hC 48 dX2_isOpen_44 (by decide) ?_
          refine go_istore_n hC dX2_isOpen_48 (by decide) ?_
          refine go_iinc hC (v := nI (k + 1)) dX2_isOpen_49 rfl (nI_1 _) (by decide) ?_
          refine go_goto hC 5 dX2_isOpen_52 (by decide) ?_
          refine ih (k + 1) true (by omega) (by omega) (by omega) ?_
          rw [← ha, c12, decide_eq_true (i32_nlt.mp c40)]; simp
  refine go_iconst hC (1) dX2_isOpen_0 (by decide) ?_
  refine go_istore_n hC dX2_isOpen_1 (by decide) ?_
  refine go_iconst hC (1) dX2_isOpen_2 (by decide) ?_
  refine go_istore hC dX2_isOpen_3 (by decide) ?_
  exact loop 1 true (Nat.le_refl _) (by omega) rfl
theorem c_X2_way (hR : RO G h r B w nb q L S J) (hw : w < 12) (d : Nat) (hd : d < 12) : CT G yX2_way cX2_way 6 (some .int) (rmL 3 0 0) [.ref r, .int (nI d)] h (fun v h' => v = some (.int (wayR L S w d)) ∧ h = h') noX := by
  refine CT_of [some (.ref r), some (.int (nI d)), none, none, none, none] (by decide +kernel) rfl (Nat.le_of_ble_eq_true rfl) (fun X hC hF hE => ?_)
  have hp := plc_lt d w
  have e12 : nI 12 - nI (plc d w) = nI (12 - plc d w) := pk_sub (by omega)
  have e13 : nI (plc d w) - nI 12 = -(nI (12 - plc d w)) := by rw [← e12]; grind
  have main : ∀ (u : Bool), u = decide (plc d w ≤ 6) → Go X G h 0 0 21 [some (.ref r), some (.int (nI d)), some (.int (nI (plc d w))), none, none, none] [.int (bI u)] := by
    intro u hu
    refine go_istore_n hC dX2_way_21 (by decide) ?_
    refine go_aload_n hC dX2_way_22 rfl ?_
    refine go_iload_n hC dX2_way_23 rfl ?_
    refine go_iconst hC (1) dX2_way_24 (by decide) ?_
    refine go_callV0 hC (c_X2_isOpen hR hw (plc d w) 1 1 (by omega) (Or.inl ⟨rfl, rfl⟩)) (lw_V q1102 q1104 qs4 q73 q1105) hR.1 rfl dX2_way_25 2 rfl (by decide +kernel) rfl ⟨Nat.le_of_ble_eq_true rfl, Nat.le_of_ble_eq_true rfl⟩ (Nat.le_of_ble_eq_true rfl) ⟨rfl, rfl⟩ ?_
    rintro _ _ ⟨rfl, rfl⟩
    refine go_istore hC dX2_way_28 (by decide) ?_
    refine go_aload_n hC dX2_way_30 rfl ?_
    refine go_bipush hC (nI 12) dX2_way_31 (by decide) ?_
    refine go_iload_n hC dX2_way_33 rfl ?_
    refine go_isub hC dX2_way_34 ?_
    rw [e12]
    refine go_iconst hC (-1) dX2_way_35 (by decide) ?_
    refine go_callV0 hC (c_X2_isOpen hR hw (12 - plc d w) 11 (-1) (by omega) (Or.inr ⟨rfl, rfl⟩)) (lw_V q1102 q1104 qs4 q73 q1105) hR.1 rfl dX2_way_36 2 rfl (by decide +kernel) rfl ⟨Nat.le_of_ble_eq_true rfl, Nat.le_of_ble_eq_true rfl⟩ (Nat.le_of_ble_eq_true rfl) ⟨rfl, rfl⟩ ?_
    rintro _ _ ⟨rfl, rfl⟩
    refine go_istore hC dX2_way_39 (by decide) ?_
    generalize hcu : opnR L S w (plc d w) 1 = cu
    generalize hcd : opnR L S w (12 - plc d w) 11 = cd
    have hu1 : opn (imbR L) (S 0) w (plc d w) 1 = cu := hcu
    have hu2 : opn (imbR L) (S 0) w (12 - plc d w) 11 = cd := hcd
    have wv : wayR L S w d = if plc d w = 0 then 0 else if cu = false ∧ cd = false then 99 else if cu = true ∧ (plc d w ≤ 6 ∨ cd = false) then nI (plc d w) else -(nI (12 - plc d w)) := by
      unfold wayR wayP
      rw [hu1, hu2]
    by_cases p0 : plc d w = 0
    · refine go_iload_n hC dX2_way_41 rfl ?_
      refine go_if_eq hC 59 dX2_way_42 (by decide) (fun _ => ?_) (fun z => absurd (show nI (plc d w) = 0 by rw [p0]; rfl) z)
      refine go_iload_n hC dX2_way_59 rfl ?_
      refine go_iret hC hF dX2_way_60 rfl rfl ?_
      exact ⟨by rw [wv, if_pos p0, p0]; rfl, rfl⟩
    · have w2 : ∀ (z3 z4 : Option Value) , cu = false ∨ (¬ plc d w ≤ 6 ∧ cd = true) → Go X G h 0 0 61 [some (.ref r), some (.int (nI d)), some (.int (nI (plc d w))), z3, z4, some (.int (bI cd))] [] := by
        intro z3 z4 hz
        cases cd with
        | true =>
          refine go_iload hC dX2_way_61 rfl ?_
          refine go_if_eq hC 73 dX2_way_63 (by decide) (fun z => absurd z (show ¬ bI true = 0 by decide)) (fun _ => ?_)
          refine go_iload_n hC dX2_way_66 rfl ?_
          refine go_bipush hC (nI 12) dX2_way_67 (by decide) ?_
          refine go_isub hC dX2_way_69 ?_
          refine go_goto hC 75 dX2_way_70 (by decide) ?_
          refine go_iret hC hF dX2_way_75 rfl rfl ?_
          refine ⟨?_, rfl⟩
          rw [wv, if_neg p0, if_neg (fun y => absurd y.2 (by decide)), if_neg (fun y => hz.elim (fun y2 => absurd (y2.symm.trans y.1) (by decide)) (fun y2 => y.2.elim y2.1 (fun y3 => absurd y3 (by decide)))), e13]
        | false =>
          have hc : cu = false := hz.resolve_right (fun y => absurd y.2 (by decide))
          refine go_iload hC dX2_way_61 rfl ?_
          refine go_if_eq hC 73 dX2_way_63 (by decide) (fun _ => ?_) (fun z => absurd rfl z)
          refine go_bipush hC (nI 99) dX2_way_73 (by decide) ?_
          refine go_iret hC hF dX2_way_75 rfl rfl ?_
          exact ⟨by rw [wv, if_neg p0, if_pos ⟨hc, rfl⟩]; rfl, rfl⟩
      refine go_iload_n hC dX2_way_41 rfl ?_
      refine go_if_eq hC 59 dX2_way_42 (by decide) (fun z => absurd z (fun y => p0 ((nI_e0 (by omega)).mp y))) (fun _ => ?_)
      cases cu with
      | false =>
        refine go_iload hC dX2_way_45 rfl ?_
        refine go_if_eq hC 61 dX2_way_47 (by decide) (fun _ => ?_) (fun z => absurd rfl z)
        exact w2 _ _ (Or.inl rfl)
      | true =>
        cases u with
        | true =>
          have h6 : plc d w ≤ 6 := of_decide_eq_true hu.symm
          refine go_iload hC dX2_way_45 rfl ?_
          refine go_if_eq hC 61 dX2_way_47 (by decide) (fun z => absurd z (show ¬ bI true = 0 by decide)) (fun _ => ?_)
          refine go_iload_n hC dX2_way_50 rfl ?_
          refine go_if_ne hC 59 dX2_way_51 (by decide) (fun _ => ?_) (fun z => absurd z (show ¬ bI true = 0 by decide))
          refine go_iload_n hC dX2_way_59 rfl ?_
          refine go_iret hC hF dX2_way_60 rfl rfl ?_
          exact ⟨by rw [wv, if_neg p0, if_neg (fun y => absurd y.1 (by decide)), if_pos ⟨rfl, Or.inl h6⟩], rfl⟩
        | false =>
          have h6 : ¬ plc d w ≤ 6 := of_decide_eq_false hu.symm
          cases cd with
          | true =>
            refine go_iload hC dX2_way_45 rfl ?_
            refine go_if_eq hC 61 dX2_way_47 (by decide) (fun z => absurd z (show ¬ bI true = 0 by decide)) (fun _ => ?_)
            refine go_iload_n hC dX2_way_50 rfl ?_
            refine go_if_ne hC 59 dX2_way_51 (by decide) (fun z => absurd (show bI false = 0 from rfl) z) (fun _ => ?_)
            refine go_iload hC dX2_way_54 rfl ?_
            refine go_if_ne hC 61 dX2_way_56 (by decide) (fun _ => ?_) (fun z => absurd z (show ¬ bI true = 0 by decide))
            exact w2 _ _ (Or.inr ⟨h6, rfl⟩)
          | false =>
            refine go_iload hC dX2_way_45 rfl ?_
            refine go_if_eq hC 61 dX2_way_47 (by decide) (fun z => absurd z (show ¬ bI true = 0 by decide)) (fun _ => ?_)
            refine go_iload_n hC dX2_way_50 rfl ?_
            refine go_if_ne hC 59 dX2_way_51 (by decide) (fun z => absurd (show bI false = 0 from rfl) z) (fun _ => ?_)
            refine go_iload hC dX2_way_54 rfl ?_
            refine go_if_ne hC 61 dX2_way_56 (by decide) (fun z => absurd (show bI false = 0 from rfl) z) (fun _ => ?_)
            refine go_iload_n hC dX2_way_59 rfl ?_
            refine go_iret hC hF dX2_way_60 rfl rfl ?_
            exact ⟨by rw [wv, if_neg p0, if_neg (fun y => absurd y.1 (by decide)), if_pos ⟨rfl, Or.inr rfl⟩], rfl⟩
  refine go_aload_n hC dX2_way_0 rfl ?_
  refine go_iload_n hC dX2_way_1 rfl ?_
  refine go_aload_n hC dX2_way_2 rfl ?_
  refine go_get hC kX2 hR.1 5 q195 dX2_way_3 rfl (by decide) (Or.inl rfl) ?_
  refine go_callV0 hC (c_X2_place hR d w hd hw) (lw_V q1098 q1099 q1100 q73 q1101) hR.1 rfl dX2_way_6 2 rfl (by decide +kernel) rfl ⟨Nat.le_of_ble_eq_true rfl, Nat.le_of_ble_eq_true rfl⟩ (Nat.le_of_ble_eq_true rfl) ⟨rfl, rfl⟩ ?_
  rintro _ _ ⟨rfl, rfl⟩
  refine go_istore_n hC dX2_way_9 (by decide) ?_
  refine go_iload_n hC dX2_way_10 rfl ?_
  refine go_bipush hC (nI 6) dX2_way_11 (by decide) ?_
  refine go_N_gt hC 20 dX2_way_13 (by decide) rfl rfl (by omega) (by omega) (fun c13 => ?_) (fun c13 => ?_)
  · refine go_iconst hC (0) dX2_way_20 (by decide) ?_
    exact main false (decide_eq_false (by omega)).symm
  · refine go_iconst hC (1) dX2_way_16 (by decide) ?_
    refine go_goto hC 21 dX2_way_17 (by decide) ?_
    exact main true (decide_eq_true (by omega)).symm
theorem c_X2_steps (hR : RO G h r B w nb q L S J) : CT G yX2_steps cX2_steps 1 (some .int) (rmL 1 0 0) [.ref r] h (fun v h' => v = some (.int (q 0 + q 1)) ∧ h = h') noX := by
  refine CT_of [some (.ref r)] (by decide +kernel) rfl (Nat.le_of_ble_eq_true rfl) (fun X hC hF hE => ?_)
  refine go_aload_n hC dX2_steps_0 rfl ?_
  refine go_get hC kX2 hR.1 7 q200 dX2_steps_1 rfl (by decide) (Or.inl rfl) ?_
  refine go_aload_n hC dX2_steps_4 rfl ?_
  refine go_get hC kX2 hR.1 8 q201 dX2_steps_5 rfl (by decide) (Or.inl rfl) ?_
  refine go_iadd hC dX2_steps_8 ?_
  refine go_iret hC hF dX2_steps_9 rfl rfl ?_
  exact ⟨rfl, rfl⟩
end RG
