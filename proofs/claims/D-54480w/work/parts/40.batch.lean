/-! A BATCH: its numbers, its orders; picking in an order -/
set_option maxRecDepth 100000
/-- a batch's object and arrays -/
def BR (G : GT) (h : PH) (b : Nat) (C : Nat → Nat) (bs : List Nat) (nu so sb : Nat → Int32) : Prop :=
  h b = some ((b, 0), ob 5 [.ref (C 0), .ref (C 1), .ref (C 2), .int (nI bs.length)]) ∧ h (C 0) = some ((b, 1), ia G 7 nu) ∧ h (C 1) = some ((b, 2), ia G 6 so) ∧ h (C 2) = some ((b, 3), ia G 6 sb) ∧ arL nu bs ∧ bs.length ≤ 6 ∧ ∀ x ∈ bs, x < 1000
theorem BR.fr {P : Ow → Prop} {G : GT} {h h' : PH} {b : Nat} {C : Nat → Nat} {bs : List Nat} {nu so sb : Nat → Int32} (hB : BR G h b C bs nu so sb) (z : fr P h h') (n : ∀ i, ¬ P (b, i)) : BR G h' b C bs nu so sb := by
  obtain ⟨h1, h2, h3, h4, h5⟩ := hB
  exact ⟨z _ _ _ h1 (n _), z _ _ _ h2 (n _), z _ _ _ h3 (n _), z _ _ _ h4 (n _), h5⟩
section BA
variable {G : GT} {h : PH} {b r d : Nat} {C : Nat → Nat} {bs : List Nat} {nu so sb : Nat → Int32} {t : St} {c : Nat}
theorem BR.uo (hB : BR G h b C bs nu so sb) (s : Nat → Int32) : BR G (hu h (C 1) (b, 2) (ia G 6 s)) b C bs nu s sb := by
  obtain ⟨h1, h2, h3, h4, h5⟩ := hB
  exact ⟨hu_k h1 h3 (ow_ne (by decide)), hu_k h2 h3 (ow_ne (by decide)), hu_eq, hu_k h4 h3 (ow_ne (by decide)), h5⟩
theorem BR.ub (hB : BR G h b C bs nu so sb) (s : Nat → Int32) : BR G (hu h (C 2) (b, 3) (ia G 6 s)) b C bs nu so s := by
  obtain ⟨h1, h2, h3, h4, h5⟩ := hB
  exact ⟨hu_k h1 h4 (ow_ne (by decide)), hu_k h2 h4 (ow_ne (by decide)), hu_k h3 h4 (ow_ne (by decide)), hu_eq, h5⟩
theorem c_X7_has (hB : BR G h b C bs nu so sb) (v : Nat) (hv : v < 2 ^ 31) : CT G yX7_has cX7_has 4 (some .boolean) (rmL 1 0 0) [.ref b, .int (nI v)] h (fun z h' => z = some (.int (bI (decide (v ∈ bs)))) ∧ h = h') noX := by
  obtain ⟨b1, b2, b3, b4, b5, b6, b7⟩ := id hB
  refine CT_of [some (.ref b), some (.int (nI v)), none, none] (by decide +kernel) rfl (Nat.le_of_ble_eq_true rfl) (fun X hC hF hE => ?_)
  have ior : ∀ (x y : Bool), bI x ||| bI y = bI (x || y) := by decide
  have loop : ∀ (i : Nat) (z : Bool), i ≤ bs.length → (z || decide (v ∈ bs.drop i)) = decide (v ∈ bs) → Go X G h 0 0 4 [some (.ref b), some (.int (nI v)), some (.int (bI z)), some (.int (nI i))] [] := by
    refine lpB (fun i _ => bs.length - i) (fun i z ih hi ha => ?_)
    refine go_iload_n hC dX7_has_4 rfl ?_
    refine go_aload_n hC dX7_has_5 rfl ?_
    refine go_get hC kX7 hB.1 3 q656 dX7_has_6 rfl (by decide) (Or.inl rfl) ?_
    refine go_N_ge hC 36 dX7_has_9 (by decide) rfl rfl (by omega) (by omega) (fun c9 => ?_) (fun c9 => ?_)
    · rw [drop_end (by omega)] at ha
      refine go_iload_n hC dX7_has_36 rfl ?_
      refine go_iret hC hF dX7_has_37 rfl (by cases z <;> rfl) ?_
      have : z = decide (v ∈ bs) := by rw [← ha]; simp
      rw [← this]
      exact ⟨rfl, rfl⟩
    · obtain ⟨x, hx, hdr⟩ := get_of c9
      have hx9 := b7 x (List.mem_of_getElem? hx)
      rw [hdr] at ha
      refine go_iload_n hC dX7_has_12 rfl ?_
      refine go_aload_n hC dX7_has_13 rfl ?_
      refine go_get hC kX7 hB.1 0 q652 dX7_has_14 rfl (by decide) (Or.inl rfl) ?_
      refine go_iload_n hC dX7_has_17 rfl ?_
      refine go_iald hC i b2 dX7_has_18 (by first | rfl | (simp only [nI_add, pk_mul, nI_1, Int32.add_zero]; done) | (simp only [nI_add, pk_mul, nI_1, Int32.add_zero]; exact congrArg nI (by omega))) (by omega) (by omega) ?_
      rw [b5 i x hx]
      refine go_iload_n hC dX7_has_19 rfl ?_
      refine go_N_ne hC 27 dX7_has_20 (by decide) rfl rfl (by omega) (by omega) (fun c20 => ?_) (fun c20 => ?_)
      · refine go_iconst hC (0) dX7_has_27 (by decide) ?_
        show Go X G h 0 0 28 _ [.int (bI false), .int (bI z)]
        refine go_ior hC dX7_has_28 ?_
        rw [ior]
        refine go_istore_n hC dX7_has_29 (by decide) ?_
        refine go_iinc hC (v := nI (i + 1)) dX7_has_30 rfl (nI_1 _) (by decide) ?_
        refine go_goto hC 4 dX7_has_33 (by decide) ?_
        refine ih (i + 1) _ (by omega) (by omega) ?_
        rw [← ha]
        have : ¬ v = x := fun e => c20 e.symm
        simp [this]
      · refine go_iconst hC (1) dX7_has_23 (by decide) ?_
        refine go_goto hC 28 dX7_has_24 (by decide) ?_
        show Go X G h 0 0 28 _ [.int (bI true), .int (bI z)]
        refine go_ior hC dX7_has_28 ?_
        rw [ior]
        refine go_istore_n hC dX7_has_29 (by decide) ?_
        refine go_iinc hC (v := nI (i + 1)) dX7_has_30 rfl (nI_1 _) (by decide) ?_
        refine go_goto hC 4 dX7_has_33 (by decide) ?_
        refine ih (i + 1) _ (by omega) (by omega) ?_
        rw [← ha, ← c20]
        simp
  refine go_iconst hC (0) dX7_has_0 (by decide) ?_
  refine go_istore_n hC dX7_has_1 (by decide) ?_
  refine go_iconst hC (0) dX7_has_2 (by decide) ?_
  refine go_istore_n hC dX7_has_3 (by decide) ?_
  exact loop 0 false (Nat.zero_le _) (by simp)
theorem c_X7_swap (hB : BR G h b C bs nu so sb) (p : List Nat) (hp : arL so p) (hl : p.length ≤ 6) (x y : Nat) (hx : x < p.length) (hy : y < p.length) : CT G yX7_swap cX7_swap 4 none (rmL 1 0 0) [.ref b, .int (nI x), .int (nI y)] h (fun v h' => v = none ∧ ∃ s, hu h (C 1) (b, 2) (ia G 6 s) = h' ∧ arL s (swp p x y)) noX := by
  refine CT_of [some (.ref b), some (.int (nI x)), some (.int (nI y)), none] (by decide +kernel) rfl (Nat.le_of_ble_eq_true rfl) (fun X hC hF hE => ?_)
  have ea := arL_get hp hx
  have eb := arL_get hp hy
  refine go_aload_n hC dX7_swap_0 rfl ?_
  refine go_get hC kX7 hB.1 1 q654 dX7_swap_1 rfl (by decide) (Or.inl rfl) ?_
  refine go_iload_n hC dX7_swap_4 rfl ?_
  refine go_iald hC x hB.2.2.1 dX7_swap_5 (by first | rfl | (simp only [nI_add, pk_mul, nI_1, Int32.add_zero]; done) | (simp only [nI_add, pk_mul, nI_1, Int32.add_zero]; exact congrArg nI (by omega))) (by omega) (by omega) ?_
  rw [ea]
  refine go_istore_n hC dX7_swap_6 (by decide) ?_
  refine go_aload_n hC dX7_swap_7 rfl ?_
  refine go_get hC kX7 hB.1 1 q654 dX7_swap_8 rfl (by decide) (Or.inl rfl) ?_
  refine go_iload_n hC dX7_swap_11 rfl ?_
  refine go_aload_n hC dX7_swap_12 rfl ?_
  refine go_get hC kX7 hB.1 1 q654 dX7_swap_13 rfl (by decide) (Or.inl rfl) ?_
  refine go_iload_n hC dX7_swap_16 rfl ?_
  refine go_iald hC y hB.2.2.1 dX7_swap_17 (by first | rfl | (simp only [nI_add, pk_mul, nI_1, Int32.add_zero]; done) | (simp only [nI_add, pk_mul, nI_1, Int32.add_zero]; exact congrArg nI (by omega))) (by omega) (by omega) ?_
  rw [eb]
  refine go_iast hC x hB.2.2.1 dX7_swap_18 (by first | rfl | (simp only [nI_add, pk_mul, nI_1, Int32.add_zero]; done) | (simp only [nI_add, pk_mul, nI_1, Int32.add_zero]; exact congrArg nI (by omega))) (by omega) (by omega) ?_
  refine go_aload_n hC dX7_swap_19 rfl ?_
  refine go_get hC kX7 (hB.uo _).1 1 q654 dX7_swap_20 rfl (by decide) (Or.inl rfl) ?_
  refine go_iload_n hC dX7_swap_23 rfl ?_
  refine go_iload_n hC dX7_swap_24 rfl ?_
  refine go_iast hC y hu_eq dX7_swap_25 (by first | rfl | (simp only [nI_add, pk_mul, nI_1, Int32.add_zero]; done) | (simp only [nI_add, pk_mul, nI_1, Int32.add_zero]; exact congrArg nI (by omega))) (by omega) (by omega) ?_
  rw [hu_hu]
  refine go_vret hC hF dX7_swap_26 rfl ?_
  exact ⟨rfl, _, rfl, arL_set (arL_set hp x _) y _⟩
/-- picked in an order, up to the first that is refused -/
theorem c_X7_inOrder (hB : BR G h b C bs nu so sb) (hG : RG G h r d t) (hw : WF c t) (hc : c ≤ 64) (hdr : d ≠ r) (hbr : b ≠ r) (p : List Nat) (a j : Nat) (s : Nat → Int32) (ha : h a = some ((b, j), ia G 6 s)) (hp : arL s p) (hpl : p.length = bs.length) (hpb : ∀ x ∈ p, x < bs.length) : CT G yX7_inOrder cX7_inOrder 4 (some .int) (rmL 7 14 14) [.ref b, .ref r, .ref a] h (fun v h' => v = some (.int (nI (pby t (inO bs p)).1)) ∧ RG G h' r d (pby t (inO bs p)).2 ∧ fr (Pr r) h h') noX := by
  refine CT_of [some (.ref b), some (.ref r), some (.ref a), none] (by decide +kernel) rfl (Nat.le_of_ble_eq_true rfl) (fun X hC hF hE => ?_)
  show Go X G h 14 14 0 _ _
  have hl6 := hB.2.2.2.2.2.1
  have loop : ∀ (i : Nat) (h1 : PH) (t1 : St), i ≤ p.length → RG G h1 r d t1 → WF c t1 → fr (Pr r) h h1 → (i + (pby t1 (inO bs (p.drop i))).1, (pby t1 (inO bs (p.drop i))).2) = pby t (inO bs p) → Go X G h1 (14 - 2 * i) (14 - 2 * i) 2 [some (.ref b), some (.ref r), some (.ref a), some (.int (nI i))] [] := by
    refine lpC (fun i _ _ => p.length - i) (fun i h1 t1 ih hi hG1 hw1 hf1 he => ?_)
    have hB1 := hB.fr hf1 (fun _ w => hbr w)
    have ha1 := hf1 _ _ _ ha (fun w => hbr w)
    obtain ⟨B, q, L, S, Z, hV1⟩ := hG1
    refine go_iload_n hC dX7_inOrder_2 rfl ?_
    refine go_aload_n hC dX7_inOrder_3 rfl ?_
    refine go_get hC kX7 hB1.1 3 q656 dX7_inOrder_4 rfl (by decide) (Or.inl rfl) ?_
    refine go_N_ge hC 48 dX7_inOrder_7 (by decide) rfl rfl (by omega) (by omega) (fun c7 => ?_) (fun c7 => ?_)
    · rw [drop_end (by omega)] at he
      refine go_iload_n hC dX7_inOrder_48 rfl ?_
      refine go_iret hC hF dX7_inOrder_49 rfl rfl ?_
      have e1 := congrArg Prod.fst he
      have e2 := congrArg Prod.snd he
      exact ⟨by rw [← e1]; rfl, by rw [← e2]; exact ⟨B, q, L, S, Z, hV1⟩, hf1⟩
    · obtain ⟨x, hx, hdr2⟩ := get_of (show i < p.length by omega)
      have hxb := hpb x (List.mem_of_getElem? hx)
      obtain ⟨n, hn, -⟩ := get_of hxb
      have en : bs.getD x 0 = n := getD_of hn
      rw [hdr2, show inO bs (x :: p.drop (i + 1)) = nI (bs.getD x 0) :: inO bs (p.drop (i + 1)) from rfl, en] at he
      refine go_aload_n hC dX7_inOrder_10 rfl ?_
      refine go_aload_n hC dX7_inOrder_11 rfl ?_
      refine go_get hC kX7 hB1.1 0 q652 dX7_inOrder_12 rfl (by decide) (Or.inl rfl) ?_
      refine go_aload_n hC dX7_inOrder_15 rfl ?_
      refine go_iload_n hC dX7_inOrder_16 rfl ?_
      refine go_iald hC i ha1 dX7_inOrder_17 (by first | rfl | (simp only [nI_add, pk_mul, nI_1, Int32.add_zero]; done) | (simp only [nI_add, pk_mul, nI_1, Int32.add_zero]; exact congrArg nI (by omega))) (by omega) (by omega) ?_
      rw [hp i x hx]
      refine go_iald hC x hB1.2.1 dX7_inOrder_18 (by first | rfl | (simp only [nI_add, pk_mul, nI_1, Int32.add_zero]; done) | (simp only [nI_add, pk_mul, nI_1, Int32.add_zero]; exact congrArg nI (by omega))) (by omega) (by omega) ?_
      rw [hB.2.2.2.2.1 x n hn]
      refine go_callV hC (c_X2_refusal hV1 hw1 hc (nI n)) (lw_V q1433 q724 q725 q73 q726) hV1.1.1 rfl dX7_inOrder_19 1 rfl (by decide +kernel) rfl ⟨Nat.le_of_ble_eq_true rfl, Nat.le_of_ble_eq_true rfl⟩ (Nat.le_of_ble_eq_true rfl) (show 1 ≤ 14 - 2 * i by omega) (show 1 ≤ 14 - 2 * i by omega) ?_
      rintro _ h2 ⟨rfl, hf2⟩
      refine go_if_ne hC 48 dX7_inOrder_22 (by decide) (fun c22 => ?_) (fun c22 => ?_)
      · rw [pby_n (show ¬ reason t1 (nI n) = 0 from c22)] at he
        refine go_iload_n hC dX7_inOrder_48 rfl ?_
        refine go_iret hC hF dX7_inOrder_49 rfl rfl ?_
        have e1 := congrArg Prod.fst he
        have e2 := congrArg Prod.snd he
        exact ⟨by rw [← e1]; rfl, by rw [← e2]; exact ⟨B, q, L, S, Z, hV1.fr hf2 (fun w => w) (fun _ _ w => w)⟩, hf1.tr (fr0 hf2)⟩
      · have hre : reason t1 (nI n) = 0 := c22
        have hV2 := hV1.fr hf2 (fun w => w) (fun _ _ w => w)
        have hB2 := hB1.fr (fr0 (P := Pr r) hf2) (fun _ w => hbr w)
        have ha2 := hf2 _ _ _ ha1 (fun w => w)
        obtain ⟨y, hy⟩ := reason0 hre
        have hi9 := hV2.itmE (nI n)
        rw [hy] at hi9
        cases hf9 : Z.find? (fun z => isX (nI n) z.2.2) with
        | none => rw [hf9] at hi9; cases hi9
        | some z =>
          rw [hf9] at hi9
          have hyz : y = z.2.2 := Option.some.inj hi9
          have hzm := List.mem_of_find?_eq_some hf9
          obtain ⟨iz, hiz⟩ := List.getElem?_of_mem hzm
          have hzn : nI (zN z) = nI n := by have := List.find?_some hf9; simpa [isX] using this
          have hway : way t1 z.2.2.2.2 ≠ 99 := by
            unfold reason at hre
            rw [hy, hyz] at hre
            intro w
            simp only [w] at hre
            split at hre
            · exact absurd hre (by decide)
            · exact absurd hre (by decide)
          rw [pby_c hre] at he
          refine go_aload_n hC dX7_inOrder_25 rfl ?_
          refine go_aload_n hC dX7_inOrder_26 rfl ?_
          refine go_aload_n hC dX7_inOrder_27 rfl ?_
          refine go_get hC kX7 hB2.1 0 q652 dX7_inOrder_28 rfl (by decide) (Or.inl rfl) ?_
          refine go_aload_n hC dX7_inOrder_31 rfl ?_
          refine go_iload_n hC dX7_inOrder_32 rfl ?_
          refine go_iald hC i ha2 dX7_inOrder_33 (by first | rfl | (simp only [nI_add, pk_mul, nI_1, Int32.add_zero]; done) | (simp only [nI_add, pk_mul, nI_1, Int32.add_zero]; exact congrArg nI (by omega))) (by omega) (by omega) ?_
          rw [hp i x hx]
          refine go_iald hC x hB2.2.1 dX7_inOrder_34 (by first | rfl | (simp only [nI_add, pk_mul, nI_1, Int32.add_zero]; done) | (simp only [nI_add, pk_mul, nI_1, Int32.add_zero]; exact congrArg nI (by omega))) (by omega) (by omega) ?_
          rw [hB.2.2.2.2.1 x n hn]
          refine go_callV hC (c_X2_item hV2 hw1 hc (nI n)) (lw_V q1434 q728 q729 q73 q730) hV2.1.1 rfl dX7_inOrder_35 1 rfl (by decide +kernel) rfl ⟨Nat.le_of_ble_eq_true rfl, Nat.le_of_ble_eq_true rfl⟩ (Nat.le_of_ble_eq_true rfl) (show 1 ≤ 14 - 2 * i - 1 by omega) (show 1 ≤ 14 - 2 * i - 1 by omega) ?_
          rintro _ h3 ⟨rfl, hf3⟩
          have hV3 := hV2.fr hf3 (fun w => w) (fun _ _ w => w)
          rw [hf9]
          refine go_callV0 hC (c_X2_pick hV3 hw1 hdr hiz hway) (lw_V q1435 q1436 q1437 q73 q1438) hV3.1.1 rfl dX7_inOrder_38 1 rfl (by decide +kernel) rfl ⟨Nat.le_of_ble_eq_true rfl, Nat.le_of_ble_eq_true rfl⟩ (Nat.le_of_ble_eq_true rfl) ⟨rfl, rfl⟩ ?_
          rintro _ h4 ⟨rfl, ⟨q4, L4, hV4⟩, hf4⟩
          refine go_pop hC dX7_inOrder_41 rfl ?_
          refine go_iinc hC (v := nI (i + 1)) dX7_inOrder_42 rfl (nI_1 _) (by decide) ?_
          refine go_goto hC 2 dX7_inOrder_45 (by decide) ?_
          rw [hzn] at hV4
          refine go_le (k' := 14 - 2 * (i + 1)) (n' := 14 - 2 * (i + 1)) (show 14 - 2 * (i + 1) ≤ 14 - 2 * i - 1 - 1 by omega) (show 14 - 2 * (i + 1) ≤ 14 - 2 * i - 1 - 1 by omega) ?_
          refine ih (i + 1) h4 (pck t1 (nI n)) (by omega) (by omega) ⟨B, q4, L4, S, _, hV4⟩ (WF_pck hw1 _) (((hf1.tr (fr0 hf2)).tr (fr0 hf3)).tr hf4) ?_
          rw [← he]
          refine Prod.ext ?_ rfl
          show i + 1 + _ = i + (_ + 1)
          omega
  refine go_iconst hC (0) dX7_inOrder_0 (by decide) ?_
  refine go_istore_n hC dX7_inOrder_1 (by decide) ?_
  exact loop 0 h t (Nat.zero_le _) hG hw fr.rf (by rw [List.drop_zero, Nat.zero_add])
theorem c_X7_asTold (hB : BR G h b C bs nu so sb) (hG : RG G h r d t) (hw : WF c t) (hc : c ≤ 64) (hdr : d ≠ r) (hbr : b ≠ r) (hdb : d ≠ b) : CT G yX7_asTold cX7_asTold 3 (some .int) (rmL 8 14 14) [.ref b, .ref r] h (fun v h' => v = some (.int (nI (pby t (inO bs (List.range bs.length))).1)) ∧ RG G h' r d (pby t (inO bs (List.range bs.length))).2 ∧ (∃ so', BR G h' b C bs nu so' sb) ∧ fr (fun o => o.1 = r ∨ o = (b, 2)) h h') noX := by
  refine CT_of [some (.ref b), some (.ref r), none] (by decide +kernel) rfl (Nat.le_of_ble_eq_true rfl) (fun X hC hF hE => ?_)
  show Go X G h 14 14 0 _ _
  have hl6 := hB.2.2.2.2.2.1
  have loop : ∀ (i : Nat) (s : Nat → Int32), i ≤ bs.length → (∀ j, j < i → s j = nI j) → Go X G (hu h (C 1) (b, 2) (ia G 6 s)) 14 14 2 [some (.ref b), some (.ref r), some (.int (nI i))] [] := by
    refine lpB (fun i _ => bs.length - i) (fun i s ih hi hs => ?_)
    have hB1 := hB.uo s
    have hf1 : fr (fun o => o = (b, 2)) h (hu h (C 1) (b, 2) (ia G 6 s)) := fr.rf.up hB.2.2.1 rfl
    refine go_iload_n hC dX7_asTold_2 rfl ?_
    refine go_aload_n hC dX7_asTold_3 rfl ?_
    refine go_get hC kX7 hB1.1 3 q656 dX7_asTold_4 rfl (by decide) (Or.inl rfl) ?_
    refine go_N_ge hC 23 dX7_asTold_7 (by decide) rfl rfl (by omega) (by omega) (fun c7 => ?_) (fun c7 => ?_)
    · have hG1 : RG G (hu h (C 1) (b, 2) (ia G 6 s)) r d t := by
        obtain ⟨B, q, L, S, Z, hV⟩ := hG
        exact ⟨B, q, L, S, Z, hV.fr hf1 (fun w => hdb (congrArg Prod.fst w)) (fun o ho w => hbr (by rw [w] at ho; exact ho))⟩
      have hp : arL s (List.range bs.length) := fun j x hx => by
        have hj : j < bs.length := by have := (List.getElem?_eq_some_iff.mp hx).1; rwa [List.length_range] at this
        rw [List.getElem?_range hj] at hx
        cases hx
        exact hs j (by omega)
      refine go_aload_n hC dX7_asTold_23 rfl ?_
      refine go_aload_n hC dX7_asTold_24 rfl ?_
      refine go_aload_n hC dX7_asTold_25 rfl ?_
      refine go_get hC kX7 hB1.1 1 q654 dX7_asTold_26 rfl (by decide) (Or.inl rfl) ?_
      refine go_callV hC (c_X7_inOrder hB1 hG1 hw hc hdr hbr (List.range bs.length) (C 1) 2 s hu_eq hp List.length_range (fun x hx => List.mem_range.mp hx)) (lw_V q1429 q1431 qs23 q110 q1432) hB1.1 rfl dX7_asTold_29 2 rfl (by decide +kernel) rfl ⟨Nat.le_of_ble_eq_true rfl, Nat.le_of_ble_eq_true rfl⟩ (Nat.le_of_ble_eq_true rfl) (Nat.le_refl _) (Nat.le_refl _) ?_
      rintro _ h2 ⟨rfl, hG2, hf2⟩
      refine go_iret hC hF dX7_asTold_32 rfl rfl ?_
      exact ⟨rfl, hG2, ⟨s, hB1.fr hf2 (fun _ w => hbr w)⟩, (hf1.mono (fun o w => Or.inr w)).tr (hf2.mono (fun o w => Or.inl w))⟩
    · refine go_aload_n hC dX7_asTold_10 rfl ?_
      refine go_get hC kX7 hB1.1 1 q654 dX7_asTold_11 rfl (by decide) (Or.inl rfl) ?_
      refine go_iload_n hC dX7_asTold_14 rfl ?_
      refine go_iload_n hC dX7_asTold_15 rfl ?_
      refine go_iast hC i hu_eq dX7_asTold_16 (by first | rfl | (simp only [nI_add, pk_mul, nI_1, Int32.add_zero]; done) | (simp only [nI_add, pk_mul, nI_1, Int32.add_zero]; exact congrArg nI (by omega))) (by omega) (by omega) ?_
      rw [hu_hu]
      refine go_iinc hC (v := nI (i + 1)) dX7_asTold_17 rfl (nI_1 _) (by decide) ?_
      refine go_goto hC 2 dX7_asTold_20 (by decide) ?_
      refine ih (i + 1) _ (by omega) (by omega) (fun j hj => ?_)
      by_cases e : j = i
      · rw [e, pk_us]
      · rw [pk_un e]; exact hs j (by omega)
  have e0 : hu h (C 1) (b, 2) (ia G 6 so) = h := hu_id hB.2.2.1
  refine go_iconst hC (0) dX7_asTold_0 (by decide) ?_
  refine go_istore_n hC dX7_asTold_1 (by decide) ?_
  rw [← e0]
  exact loop 0 so (Nat.zero_le _) (fun j hj => absurd hj (Nat.not_lt_zero _))
end BA
