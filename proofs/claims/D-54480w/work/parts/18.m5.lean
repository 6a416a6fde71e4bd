/-! THE REFERENCE: orders, the batch by a rule -/
set_option maxRecDepth 100000
theorem arL_set {s : Nat → Int32} {l : List Nat} (h : arL s l) (i v : Nat) : arL (upd s i (nI v)) (l.set i v) := by
  intro j x hx
  rw [List.getElem?_set] at hx
  by_cases q : i = j
  · subst q
    rw [if_pos rfl] at hx
    by_cases r : i < l.length
    · rw [if_pos r] at hx; cases hx; exact pk_us
    · rw [if_neg r] at hx; cases hx
  · rw [if_neg q] at hx; rw [pk_un (Ne.symm q)]; exact h j x hx
theorem arL_get {s : Nat → Int32} {l : List Nat} (h : arL s l) {i : Nat} (hi : i < l.length) : s i = nI (l.getD i 0) := h i _ (by rw [List.getD_eq_getElem?_getD, List.getElem?_eq_getElem hi]; rfl)
section M5
variable {G : GT} {h : PH} {m : Nat} {A : Nat → Nat} {f : Nat → Int32} {hs : Int64} {g : Nat → Nat → Int32} {t : St} {c : Nat}
abbrev hO (G : GT) (h : PH) (m : Nat) (A : Nat → Nat) (s : Nat → Int32) : PH := hu h (A 11) (m, 11) (ia G 6 s)
abbrev hB (G : GT) (h : PH) (m : Nat) (A : Nat → Nat) (s : Nat → Int32) : PH := hu h (A 12) (m, 12) (ia G 6 s)
abbrev hT (G : GT) (h : PH) (m : Nat) (A : Nat → Nat) (s : Nat → Int32) : PH := hu h (A 14) (m, 14) (ia G 142 s)
theorem c_X3_firstOrder (hM : MRep G h m A f hs g) (n : Nat) (hk : f 10 = nI n) (hn : n ≤ 6) : CT G yX3_firstOrder cX3_firstOrder 2 none (rmL 1 0 0) [.ref m] h (fun v h' => v = none ∧ ∃ s, hO G h m A s = h' ∧ arL s (List.range n)) noX := by
  refine CT_of [some (.ref m), none] (by decide +kernel) rfl (Nat.le_of_ble_eq_true rfl) (fun X hC hF hE => ?_)
  have loop : ∀ (i : Nat) (s : Nat → Int32), i ≤ n → (∀ j, j < i → s j = nI j) → Go X G (hO G h m A s) 0 0 2 [some (.ref m), some (.int (nI i))] [] := by
    refine lpB (fun i _ => n - i) (fun i s ih hi hz => ?_)
    have hM1 := hM.u11 s
    refine go_iload_n hC dX3_firstOrder_2 rfl ?_
    refine go_aload_n hC dX3_firstOrder_3 rfl ?_
    refine go_get hC kX3 hM1.1 10 q1762 dX3_firstOrder_4 rfl (by decide) (Or.inl rfl) ?_
    refine go_N_ge hC 23 dX3_firstOrder_7 (by decide) rfl hk (by omega) (by omega) (fun c7 => ?_) (fun c7 => ?_)
    · refine go_vret hC hF dX3_firstOrder_23 rfl ?_
      refine ⟨rfl, s, rfl, fun j x hx => ?_⟩
      have hj : j < n := by have := (List.getElem?_eq_some_iff.mp hx).1; rwa [List.length_range] at this
      rw [List.getElem?_range hj] at hx
      cases hx
      exact hz j (by omega)
    · refine go_aload_n hC dX3_firstOrder_10 rfl ?_
      refine go_get hC kX3 hM1.1 11 q1763 dX3_firstOrder_11 rfl (by decide) (Or.inl rfl) ?_
      refine go_iload_n hC dX3_firstOrder_14 rfl ?_
      refine go_iload_n hC dX3_firstOrder_15 rfl ?_
      refine go_iast hC i hu_eq dX3_firstOrder_16 (by first | rfl | (simp only [nI_add, pk_mul, nI_1, Int32.add_zero]; done) | (simp only [nI_add, pk_mul, nI_1, Int32.add_zero]; exact congrArg nI (by omega))) (by omega) (by omega) ?_
      rw [hu_hu]
      refine go_iinc hC (v := nI (i + 1)) dX3_firstOrder_17 rfl (nI_1 _) (by decide) ?_
      refine go_goto hC 2 dX3_firstOrder_20 (by decide) ?_
      refine ih (i + 1) _ (by omega) (by omega) (fun j hj => ?_)
      by_cases q : j = i
      · rw [q, pk_us]
      · rw [pk_un q]; exact hz j (by omega)
  have e0 : hO G h m A (g 11) = h := hu_id hM.2.2.2.2.2.2.1
  refine go_iconst hC (0) dX3_firstOrder_0 (by decide) ?_
  refine go_istore_n hC dX3_firstOrder_1 (by decide) ?_
  rw [← e0]
  exact loop 0 (g 11) (Nat.zero_le _) (fun j hj => absurd hj (Nat.not_lt_zero _))
theorem c_X3_swaps (hM : MRep G h m A f hs g) (p : List Nat) (hp : arL (g 11) p) (hl : p.length ≤ 6) (a b : Nat) (ha : a < p.length) (hb : b < p.length) : CT G yX3_swaps cX3_swaps 4 none (rmL 1 0 0) [.ref m, .int (nI a), .int (nI b)] h (fun v h' => v = none ∧ ∃ s, hO G h m A s = h' ∧ arL s (swp p a b)) noX := by
  refine CT_of [some (.ref m), some (.int (nI a)), some (.int (nI b)), none] (by decide +kernel) rfl (Nat.le_of_ble_eq_true rfl) (fun X hC hF hE => ?_)
  have ea := arL_get hp ha
  have eb := arL_get hp hb
  have hM1 := fun s => hM.u11 s
  refine go_aload_n hC dX3_swaps_0 rfl ?_
  refine go_get hC kX3 hM.1 11 q1763 dX3_swaps_1 rfl (by decide) (Or.inl rfl) ?_
  refine go_iload_n hC dX3_swaps_4 rfl ?_
  refine go_iald hC a hM.2.2.2.2.2.2.1 dX3_swaps_5 (by first | rfl | (simp only [nI_add, pk_mul, nI_1, Int32.add_zero]; done) | (simp only [nI_add, pk_mul, nI_1, Int32.add_zero]; exact congrArg nI (by omega))) (by omega) (by omega) ?_
  rw [ea]
  refine go_istore_n hC dX3_swaps_6 (by decide) ?_
  refine go_aload_n hC dX3_swaps_7 rfl ?_
  refine go_get hC kX3 hM.1 11 q1763 dX3_swaps_8 rfl (by decide) (Or.inl rfl) ?_
  refine go_iload_n hC dX3_swaps_11 rfl ?_
  refine go_aload_n hC dX3_swaps_12 rfl ?_
  refine go_get hC kX3 hM.1 11 q1763 dX3_swaps_13 rfl (by decide) (Or.inl rfl) ?_
  refine go_iload_n hC dX3_swaps_16 rfl ?_
  refine go_iald hC b hM.2.2.2.2.2.2.1 dX3_swaps_17 (by first | rfl | (simp only [nI_add, pk_mul, nI_1, Int32.add_zero]; done) | (simp only [nI_add, pk_mul, nI_1, Int32.add_zero]; exact congrArg nI (by omega))) (by omega) (by omega) ?_
  rw [eb]
  refine go_iast hC a hM.2.2.2.2.2.2.1 dX3_swaps_18 (by first | rfl | (simp only [nI_add, pk_mul, nI_1, Int32.add_zero]; done) | (simp only [nI_add, pk_mul, nI_1, Int32.add_zero]; exact congrArg nI (by omega))) (by omega) (by omega) ?_
  refine go_aload_n hC dX3_swaps_19 rfl ?_
  refine go_get hC kX3 (hM1 _).1 11 q1763 dX3_swaps_20 rfl (by decide) (Or.inl rfl) ?_
  refine go_iload_n hC dX3_swaps_23 rfl ?_
  refine go_iload_n hC dX3_swaps_24 rfl ?_
  refine go_iast hC b hu_eq dX3_swaps_25 (by first | rfl | (simp only [nI_add, pk_mul, nI_1, Int32.add_zero]; done) | (simp only [nI_add, pk_mul, nI_1, Int32.add_zero]; exact congrArg nI (by omega))) (by omega) (by omega) ?_
  rw [hu_hu]
  refine go_vret hC hF dX3_swaps_26 rfl ?_
  exact ⟨rfl, _, rfl, arL_set (arL_set hp a _) b _⟩
theorem c_X3_hasNextOrder (hM : MRep G h m A f hs g) (p : List Nat) (n : Nat) (hk : f 10 = nI n) (hn : n ≤ 6) (hp : arL (g 11) p) (hpo : PO n p) : CT G yX3_hasNextOrder cX3_hasNextOrder 4 (some .boolean) (rmL 2 0 0) [.ref m] h (fun v h' => v = some (.int (bI (nxt p).isSome)) ∧ ∃ s, hO G h m A s = h' ∧ arL s ((nxt p).getD p)) noX := by
  refine CT_of [some (.ref m), none, none, none] (by decide +kernel) rfl (Nat.le_of_ble_eq_true rfl) (fun X hC hF hE => ?_)
  have hl := hpo.1
  have e0 : hO G h m A (g 11) = h := hu_id hM.2.2.2.2.2.2.1
  -- the search for the place from
  have loop3 : ∀ (k : Nat) (q : List Nat) (s : Nat → Int32) (i : Nat) (z : Int32) (r : List Nat), nxt p = some r → i + 1 ≤ n → 1 ≤ k → i + k ≤ n → arL s q → q.length = n → (∃ fu, n ≤ fu + (i + k) ∧ rvs fu q (i + k) (n - k) = r) → Go X G (hO G h m A s) 0 0 76 [some (.ref m), some (.int (nI i)), some (.int z), some (.int (nI k))] [] := by
    refine lpC (fun k _ _ => n - k) (fun k q s ih i z r hr hi hk1 hkn hs hql hfu => ?_)
    have hM1 := hM.u11 s
    obtain ⟨fu, hf1, hf2⟩ := hfu
    have e2 : f 10 - nI k = nI (n - k) := by rw [hk]; exact pk_sub (by omega)
    refine go_iload_n hC dX3_hasNextOrder_76 rfl ?_
    refine go_iload_n hC dX3_hasNextOrder_77 rfl ?_
    refine go_iadd hC dX3_hasNextOrder_78 ?_
    refine go_aload_n hC dX3_hasNextOrder_79 rfl ?_
    refine go_get hC kX3 hM1.1 10 q1762 dX3_hasNextOrder_80 rfl (by decide) (Or.inl rfl) ?_
    refine go_iload_n hC dX3_hasNextOrder_83 rfl ?_
    refine go_isub hC dX3_hasNextOrder_84 ?_
    refine go_N_ge hC 107 dX3_hasNextOrder_85 (by decide) (nI_add i k) e2 (by omega) (by omega) (fun c85 => ?_) (fun c85 => ?_)
    · refine go_iconst hC (1) dX3_hasNextOrder_107 (by decide) ?_
      refine go_iret hC hF dX3_hasNextOrder_108 rfl rfl ?_
      have hd : rvs fu q (i + k) (n - k) = q := by
        cases fu with
        | zero => rfl
        | succ fu => show ite _ _ _ = _; rw [if_neg (by omega)]
      rw [hr]
      refine ⟨rfl, s, rfl, ?_⟩
      show arL s r
      rw [← hf2, hd]; exact hs
    · cases fu with
      | zero => exact absurd hf1 (by omega)
      | succ fu =>
        have hd : rvs (fu + 1) q (i + k) (n - k) = rvs fu (swp q (i + k) (n - k)) (i + k + 1) (n - k - 1) := by
          show ite _ _ _ = _; rw [if_pos (by omega)]
        rw [hd] at hf2
        refine go_aload_n hC dX3_hasNextOrder_88 rfl ?_
        refine go_iload_n hC dX3_hasNextOrder_89 rfl ?_
        refine go_iload_n hC dX3_hasNextOrder_90 rfl ?_
        refine go_iadd hC dX3_hasNextOrder_91 ?_
        refine go_aload_n hC dX3_hasNextOrder_92 rfl ?_
        refine go_get hC kX3 hM1.1 10 q1762 dX3_hasNextOrder_93 rfl (by decide) (Or.inl rfl) ?_
        refine go_iload_n hC dX3_hasNextOrder_96 rfl ?_
        refine go_isub hC dX3_hasNextOrder_97 ?_
        rw [nI_add, e2]
        refine go_callV0 hC (c_X3_swaps hM1 q hs (by omega) (i + k) (n - k) (by omega) (by omega)) (lw_V q1961 q1963 qs59 q83 q1964) hM1.1 rfl dX3_hasNextOrder_98 2 rfl (by decide +kernel) rfl ⟨Nat.le_of_ble_eq_true rfl, Nat.le_of_ble_eq_true rfl⟩ (Nat.le_of_ble_eq_true rfl) ⟨rfl, rfl⟩ ?_
        rintro _ _ ⟨rfl, s2, rfl, hs2⟩
        rw [show hO G (hO G h m A s) m A s2 = hO G h m A s2 from hu_hu]
        refine go_iinc hC (v := nI (k + 1)) dX3_hasNextOrder_101 rfl (nI_1 _) (by decide) ?_
        refine go_goto hC 76 dX3_hasNextOrder_104 (by decide) ?_
        exact ih (k + 1) _ s2 (by omega) i z r hr hi (by omega) (by omega) hs2 (by rw [swp_len]; exact hql) ⟨fu, by omega, by rw [show n - (k + 1) = n - k - 1 by omega]; exact hf2⟩
  have loop2 : ∀ (w i : Nat), nxF p (p.length - 1) = some i → i + 1 ≤ n → w < n → nxW p (p.getD i 0) w = nxW p (p.getD i 0) (p.length - 1) → i + 1 ≤ w → Go X G h 0 0 47 [some (.ref m), some (.int (nI i)), some (.int (nI w)), none] [] := by
    refine lpA (fun w => w) (fun w ih i hf hi hw he hiw => ?_)
    have hfo := nxF_ok p _ _ hf
    refine go_aload_n hC dX3_hasNextOrder_47 rfl ?_
    refine go_get hC kX3 hM.1 11 q1763 dX3_hasNextOrder_48 rfl (by decide) (Or.inl rfl) ?_
    refine go_iload_n hC dX3_hasNextOrder_51 rfl ?_
    refine go_iald hC w hM.2.2.2.2.2.2.1 dX3_hasNextOrder_52 (by first | rfl | (simp only [nI_add, pk_mul, nI_1, Int32.add_zero]; done) | (simp only [nI_add, pk_mul, nI_1, Int32.add_zero]; exact congrArg nI (by omega))) (by omega) (by omega) ?_
    rw [arL_get hp (show w < p.length by omega)]
    refine go_aload_n hC dX3_hasNextOrder_53 rfl ?_
    refine go_get hC kX3 hM.1 11 q1763 dX3_hasNextOrder_54 rfl (by decide) (Or.inl rfl) ?_
    refine go_iload_n hC dX3_hasNextOrder_57 rfl ?_
    refine go_iald hC i hM.2.2.2.2.2.2.1 dX3_hasNextOrder_58 (by first | rfl | (simp only [nI_add, pk_mul, nI_1, Int32.add_zero]; done) | (simp only [nI_add, pk_mul, nI_1, Int32.add_zero]; exact congrArg nI (by omega))) (by omega) (by omega) ?_
    rw [arL_get hp (show i < p.length by omega)]
    refine go_N_ge hC 68 dX3_hasNextOrder_59 (by decide) rfl rfl (Nat.lt_of_lt_of_le (hpo.2.1 w hw) (by omega)) (Nat.lt_of_lt_of_le (hpo.2.1 i (by omega)) (by omega)) (fun c59 => ?_) (fun c59 => ?_)
    · have hwe : nxW p (p.getD i 0) w = w := by
        cases w with
        | zero => rfl
        | succ w => show ite _ _ _ = _; rw [if_neg (Nat.not_lt.mpr c59)]
      rw [hwe] at he
      refine go_aload_n hC dX3_hasNextOrder_68 rfl ?_
      refine go_iload_n hC dX3_hasNextOrder_69 rfl ?_
      refine go_iload_n hC dX3_hasNextOrder_70 rfl ?_
      refine go_callV0 hC (c_X3_swaps hM p hp (by omega) i w (by omega) (by omega)) (lw_V q1961 q1963 qs59 q83 q1964) hM.1 rfl dX3_hasNextOrder_71 2 rfl (by decide +kernel) rfl ⟨Nat.le_of_ble_eq_true rfl, Nat.le_of_ble_eq_true rfl⟩ (Nat.le_of_ble_eq_true rfl) ⟨rfl, rfl⟩ ?_
      rintro _ _ ⟨rfl, s2, rfl, hs2⟩
      refine go_iconst hC (1) dX3_hasNextOrder_74 (by decide) ?_
      refine go_istore_n hC dX3_hasNextOrder_75 (by decide) ?_
      refine loop3 1 _ s2 i _ (rvs p.length (swp p i w) (i + 1) (p.length - 1)) ?_ hi (Nat.le_refl _) (by omega) hs2 (by rw [swp_len]; exact hl) ⟨p.length, by omega, by rw [hl]⟩
      unfold nxt
      rw [hf, he]
    · cases w with
      | zero => exact absurd hiw (by omega)
      | succ w =>
        have hwe : nxW p (p.getD i 0) (w + 1) = nxW p (p.getD i 0) w := by show ite _ _ _ = _; rw [if_pos c59]
        rw [hwe] at he
        have hiw2 : i + 1 ≤ w := by
          rcases Nat.lt_or_ge i w with z | z
          · omega
          · have : i = w := by omega
            subst this
            exact absurd c59 hfo.2
        refine go_iinc hC (v := nI (w)) dX3_hasNextOrder_62 rfl (pk_m1 _) (by decide) ?_
        refine go_goto hC 47 dX3_hasNextOrder_65 (by decide) ?_
        exact ih w (by omega) i hf hi (by omega) he hiw2
  have tail : ∀ (i : Nat), nxF p (p.length - 1) = some i → i + 1 ≤ n → Go X G h 0 0 40 [some (.ref m), some (.int (nI i)), none, none] [] := by
    intro i hf hi
    have hfo := nxF_ok p _ _ hf
    have e1 : f 10 - 1 = nI (n - 1) := by rw [hk]; exact pk_sub (b := 1) (by omega)
    refine go_aload_n hC dX3_hasNextOrder_40 rfl ?_
    refine go_get hC kX3 hM.1 10 q1762 dX3_hasNextOrder_41 rfl (by decide) (Or.inl rfl) ?_
    refine go_iconst hC (1) dX3_hasNextOrder_44 (by decide) ?_
    refine go_isub hC dX3_hasNextOrder_45 ?_
    rw [e1]
    refine go_istore_n hC dX3_hasNextOrder_46 (by decide) ?_
    exact loop2 (n - 1) i hf hi (by omega) (by rw [hl]) (by omega)
  have neg : ∀ (x : Int32), x < 0 → nxF p (p.length - 1) = none → Go X G h 0 0 7 [some (.ref m), some (.int x), none, none] [] := by
    intro x hx hf
    refine go_iload_n hC dX3_hasNextOrder_7 rfl ?_
    refine go_if_lt hC 34 dX3_hasNextOrder_8 (by decide) (fun _ => ?_) (fun z => absurd hx z)
    refine go_iload_n hC dX3_hasNextOrder_34 rfl ?_
    refine go_if_ge hC 40 dX3_hasNextOrder_35 (by decide) (fun z => absurd z (i32_nle.mpr hx)) (fun _ => ?_)
    refine go_iconst hC (0) dX3_hasNextOrder_38 (by decide) ?_
    refine go_iret hC hF dX3_hasNextOrder_39 rfl rfl ?_
    have hn0 : nxt p = none := by unfold nxt; rw [hf]
    rw [hn0]
    exact ⟨rfl, g 11, e0, hp⟩
  have loop1 : ∀ (k : Nat), k + 2 ≤ n → nxF p (k + 1) = nxF p (p.length - 1) → Go X G h 0 0 7 [some (.ref m), some (.int (nI k)), none, none] [] := by
    refine lpA (fun k => k) (fun k ih hk1 he => ?_)
    refine go_iload_n hC dX3_hasNextOrder_7 rfl ?_
    refine go_if_lt hC 34 dX3_hasNextOrder_8 (by decide) (fun z => absurd z (nI_pos (by omega))) (fun _ => ?_)
    refine go_aload_n hC dX3_hasNextOrder_11 rfl ?_
    refine go_get hC kX3 hM.1 11 q1763 dX3_hasNextOrder_12 rfl (by decide) (Or.inl rfl) ?_
    refine go_iload_n hC dX3_hasNextOrder_15 rfl ?_
    refine go_iald hC k hM.2.2.2.2.2.2.1 dX3_hasNextOrder_16 (by first | rfl | (simp only [nI_add, pk_mul, nI_1, Int32.add_zero]; done) | (simp only [nI_add, pk_mul, nI_1, Int32.add_zero]; exact congrArg nI (by omega))) (by omega) (by omega) ?_
    rw [arL_get hp (show k < p.length by omega)]
    refine go_aload_n hC dX3_hasNextOrder_17 rfl ?_
    refine go_get hC kX3 hM.1 11 q1763 dX3_hasNextOrder_18 rfl (by decide) (Or.inl rfl) ?_
    refine go_iload_n hC dX3_hasNextOrder_21 rfl ?_
    refine go_iconst hC (1) dX3_hasNextOrder_22 (by decide) ?_
    refine go_iadd hC dX3_hasNextOrder_23 ?_
    refine go_iald hC (k+1) hM.2.2.2.2.2.2.1 dX3_hasNextOrder_24 (by first | rfl | (simp only [nI_add, pk_mul, nI_1, Int32.add_zero]; done) | (simp only [nI_add, pk_mul, nI_1, Int32.add_zero]; exact congrArg nI (by omega))) (by omega) (by omega) ?_
    rw [arL_get hp (show k + 1 < p.length by omega)]
    refine go_N_le hC 34 dX3_hasNextOrder_25 (by decide) rfl rfl (Nat.lt_of_lt_of_le (hpo.2.1 k (by omega)) (by omega)) (Nat.lt_of_lt_of_le (hpo.2.1 (k+1) (by omega)) (by omega)) (fun c25 => ?_) (fun c25 => ?_)
    · have hf : nxF p (p.length - 1) = some k := by rw [← he]; show ite _ _ _ = _; rw [if_neg (Nat.not_lt.mpr c25)]
      refine go_iload_n hC dX3_hasNextOrder_34 rfl ?_
      refine go_if_ge hC 40 dX3_hasNextOrder_35 (by decide) (fun _ => ?_) (fun z => absurd (nI_pos' (by omega)) z)
      exact tail k hf (by omega)
    · have hf : nxF p (p.length - 1) = nxF p k := by rw [← he]; show ite _ _ _ = _; rw [if_pos c25]
      cases k with
      | zero =>
        refine go_iinc hC dX3_hasNextOrder_28 rfl rfl (by decide) ?_
        refine go_goto hC 7 dX3_hasNextOrder_31 (by decide) ?_
        exact neg _ (by decide) hf
      | succ k =>
        refine go_iinc hC (v := nI (k)) dX3_hasNextOrder_28 rfl (pk_m1 _) (by decide) ?_
        refine go_goto hC 7 dX3_hasNextOrder_31 (by decide) ?_
        exact ih k (by omega) (by omega) hf.symm
  rcases Nat.lt_or_ge n 2 with q | q
  · have hx : f 10 - nI 2 < 0 := by
      rcases (show n = 0 ∨ n = 1 by omega) with z | z <;> rw [hk, z] <;> decide
    refine go_aload_n hC dX3_hasNextOrder_0 rfl ?_
    refine go_get hC kX3 hM.1 10 q1762 dX3_hasNextOrder_1 rfl (by decide) (Or.inl rfl) ?_
    refine go_iconst hC (nI 2) dX3_hasNextOrder_4 (by decide) ?_
    refine go_isub hC dX3_hasNextOrder_5 ?_
    refine go_istore_n hC dX3_hasNextOrder_6 (by decide) ?_
    exact neg _ hx (by rw [show p.length - 1 = 0 by omega]; rfl)
  · have hx : f 10 - nI 2 = nI (n - 2) := by rw [hk]; exact pk_sub q
    refine go_aload_n hC dX3_hasNextOrder_0 rfl ?_
    refine go_get hC kX3 hM.1 10 q1762 dX3_hasNextOrder_1 rfl (by decide) (Or.inl rfl) ?_
    refine go_iconst hC (nI 2) dX3_hasNextOrder_4 (by decide) ?_
    refine go_isub hC dX3_hasNextOrder_5 ?_
    rw [hx]
    refine go_istore_n hC dX3_hasNextOrder_6 (by decide) ?_
    exact loop1 (n - 2) (by omega) (by rw [show n - 2 + 1 = p.length - 1 by omega])
theorem c_X3_laysBestOrder (hM : MRep G h m A f hs g) (hr : Row (g 1) t) (hw : WF c t) (bs : List Nat) (hb : Bat f g bs) : CT G yX3_laysBestOrder cX3_laysBestOrder 6 none (rmL 8 0 0) [.ref m] h (fun v h' => v = none ∧ ∃ g', MRep G h' m A f hs g' ∧ Mto h h' m ∧ Row (g' 1) t ∧ arL (g' 12) (layB t bs) ∧ (g' 2 = g 2 ∧ g' 3 = g 3 ∧ g' 5 = g 5 ∧ g' 9 = g 9) ∧ PO bs.length (layB t bs)) noX := by
  refine CT_of [some (.ref m), none, none, none, none, none] (by decide +kernel) rfl (Nat.le_of_ble_eq_true rfl) (fun X hC hF hE => ?_)
  obtain ⟨hb1, hb2, hb3⟩ := hb
  have hn := hw.n
  -- the loop over the orders
  have loop : ∀ (rank : Nat) (fu : Nat) (ls : Int32) (best ord : List Nat) (z3 z4 z5 : Option Value) (h1 : PH) (g1 : Nat → Nat → Int32), 117649 - rk ord = rank → 117649 ≤ fu + rk ord → PO bs.length ord → PO bs.length best → lay fu t bs ls best ord = layB t bs → MRep G h1 m A f hs g1 → Mto h h1 m → Row (g1 1) t → arL (g1 11) ord → arL (g1 12) best → (∀ j, j < 142 → g1 14 j = g1 1 j) → (g1 2 = g 2 ∧ g1 3 = g 3 ∧ g1 5 = g 5 ∧ g1 9 = g 9) → Go X G h1 0 0 62 [some (.ref m), some (.int ls), some (.int 1), z3, z4, z5] [] := by
    refine lpA (fun r => r) (fun rank ih fu ls best ord z3 z4 z5 h1 g1 hrk hfu hpo hpb hlay hM1 ht1 hr1 ho1 hbe1 hst hkp => ?_)
    obtain ⟨k2, k3, k5, k9⟩ := hkp
    have hb9 : arL (g1 9) bs := by rw [k9]; exact hb1
    have hlt := rk_PO hpo hb3
    cases fu with
    | zero => exact absurd hfu (by omega)
    | succ fu =>
      have fin : ∀ (ls' : Int32) (best' : List Nat) (z3 z4 z5 : Option Value) (h2 : PH) (g2 : Nat → Nat → Int32), (match nxt ord with | none => best' | some o => lay fu t bs ls' best' o) = layB t bs → PO bs.length best' → MRep G h2 m A f hs g2 → Mto h h2 m → Row (g2 1) t → arL (g2 11) ord → arL (g2 12) best' → (∀ j, j < 142 → g2 14 j = g2 1 j) → (g2 2 = g 2 ∧ g2 3 = g 3 ∧ g2 5 = g 5 ∧ g2 9 = g 9) → Go X G h2 0 0 179 [some (.ref m), some (.int ls'), some (.int 1), z3, z4, z5] [] := by
        intro ls' best' z3 z4 z5 h2 g2 hl2 hpb2 hM2 ht2 hr2 ho2 hbe2 hst2 hkp2
        refine go_aload_n hC dX3_laysBestOrder_179 rfl ?_
        refine go_callV0 hC (c_X3_hasNextOrder hM2 ord bs.length hb2 hb3 ho2 hpo) (lw_V q1957 q1959 qs58 q83 q1960) hM2.1 rfl dX3_laysBestOrder_180 0 rfl (by decide +kernel) rfl ⟨Nat.le_of_ble_eq_true rfl, Nat.le_of_ble_eq_true rfl⟩ (Nat.le_of_ble_eq_true rfl) ⟨rfl, rfl⟩ ?_
        rintro _ _ ⟨rfl, s3, rfl, hs3⟩
        refine go_istore_n hC dX3_laysBestOrder_183 (by decide) ?_
        refine go_goto hC 58 dX3_laysBestOrder_184 (by decide) ?_
        have hM3 := hM2.u11 s3
        have ht3 : Mto h (hO G h2 m A s3) m := ht2.st hM2.2.2.2.2.2.2.1
        cases hx : nxt ord with
        | none =>
          rw [hx] at hl2 hs3
          refine go_iload_n hC dX3_laysBestOrder_58 rfl ?_
          refine go_if_eq hC 187 dX3_laysBestOrder_59 (by decide) (fun _ => ?_) (fun z => absurd rfl z)
          refine go_vret hC hF dX3_laysBestOrder_187 rfl ?_
          exact ⟨rfl, _, hM3, ht3, hr2, by rw [← hl2]; exact hbe2, hkp2, by rw [← hl2]; exact hpb2⟩
        | some o =>
          rw [hx] at hl2 hs3
          obtain ⟨po2, rk2⟩ := nxt_ok hpo hb3 hx
          have hlt2 := rk_PO po2 hb3
          refine go_iload_n hC dX3_laysBestOrder_58 rfl ?_
          refine go_if_eq hC 187 dX3_laysBestOrder_59 (by decide) (fun z => absurd z (show ¬ bI true = 0 by decide)) (fun _ => ?_)
          exact ih (117649 - rk o) (by omega) fu ls' best' o z3 z4 z5 _ _ rfl (by omega) po2 hpb2 hl2 hM3 ht3 hr2 hs3 hbe2 hst2 hkp2
      have hq1 : (pby t (inO bs ord)).1 ≤ 6 := by have := pby_le (inO bs ord) t; unfold inO at this ⊢; rw [List.length_map, hpo.1] at this; omega
      have hlu : lay (fu + 1) t bs ls best ord = (match nxt ord with | none => if (pby t (inO bs ord)).1 = bs.length ∧ (ls = -1 ∨ sN (pby t (inO bs ord)).2 4 - sN t 4 < ls) then ord else best | some o => if (pby t (inO bs ord)).1 = bs.length ∧ (ls = -1 ∨ sN (pby t (inO bs ord)).2 4 - sN t 4 < ls) then lay fu t bs (sN (pby t (inO bs ord)).2 4 - sN t 4) ord o else lay fu t bs ls best o) := rfl
      have hno : ¬ ((pby t (inO bs ord)).1 = bs.length ∧ (ls = -1 ∨ sN (pby t (inO bs ord)).2 4 - sN t 4 < ls)) → (match nxt ord with | none => best | some o => lay fu t bs ls best o) = layB t bs := by
        intro z
        rw [← hlay, hlu]
        cases nxt ord with
        | none => show best = ite _ _ _; rw [if_neg z]
        | some o => show _ = ite _ _ _; rw [if_neg z]
      have hyes : ((pby t (inO bs ord)).1 = bs.length ∧ (ls = -1 ∨ sN (pby t (inO bs ord)).2 4 - sN t 4 < ls)) → (match nxt ord with | none => ord | some o => lay fu t bs (sN (pby t (inO bs ord)).2 4 - sN t 4) ord o) = layB t bs := by
        intro z
        rw [← hlay, hlu]
        cases nxt ord with
        | none => show ord = ite _ _ _; rw [if_pos z]
        | some o => show _ = ite _ _ _; rw [if_pos z]
      have e14 : hS G h1 m A (g1 1) = h1 := hu_id hM1.2.1
      have steps : ∀ (b : Bool) (s5 : Int32) (z : Int32) (s : Nat → Int32), s5 = sN (pby t (inO bs ord)).2 4 - sN t 4 → (b = true ↔ (pby t (inO bs ord)).1 = bs.length) → (∀ j, j < 142 → s j = g1 14 j) → Go X G (hS G h1 m A s) 0 0 129 [some (.ref m), some (.int ls), some (.int 1), some (.int (bI b)), some (.int s5), some (.int z)] [] := by
        intro b s5 z s hs5 hb' hs'
        have hM2 := hM1.s s
        have ht2 : Mto h (hS G h1 m A s) m := ht1.st hM1.2.1
        have hr2 : Row s t := Row_cg hr1 hn (fun j hj => by rw [hs' j hj, hst j hj])
        have hst2 : ∀ j, j < 142 → va_up g1 1 s 14 j = va_up g1 1 s 1 j := fun j hj => (hs' j hj).symm
        have copy : ∀ (k : Nat) (b12 : Nat → Int32), k ≤ bs.length → (∀ j, j < k → b12 j = g1 11 j) → (pby t (inO bs ord)).1 = bs.length ∧ (ls = -1 ∨ sN (pby t (inO bs ord)).2 4 - sN t 4 < ls) → Go X G (hB G (hS G h1 m A s) m A b12) 0 0 150 [some (.ref m), some (.int s5), some (.int 1), some (.int (bI b)), some (.int s5), some (.int (nI k))] [] := by
          refine lpB (fun k _ => bs.length - k) (fun k b12 ihc hk hc hok => ?_)
          have hM3 := hM2.u12 b12
          refine go_iload hC dX3_laysBestOrder_150 rfl ?_
          refine go_aload_n hC dX3_laysBestOrder_152 rfl ?_
          refine go_get hC kX3 hM3.1 10 q1762 dX3_laysBestOrder_153 rfl (by decide) (Or.inl rfl) ?_
          refine go_N_ge hC 179 dX3_laysBestOrder_156 (by decide) rfl hb2 (by omega) (by omega) (fun c156 => ?_) (fun c156 => ?_)
          · have ht3 : Mto h (hB G (hS G h1 m A s) m A b12) m := ht2.st hM2.2.2.2.2.2.2.2.1
            rw [hs5]
            exact fin _ ord _ _ _ _ _ (hyes hok) hpo hM3 ht3 hr2 ho1 (fun j x hx => by
              have hj : j < bs.length := by have := (List.getElem?_eq_some_iff.mp hx).1; rwa [hpo.1] at this
              show b12 j = nI x
              rw [hc j (by omega)]; exact ho1 j x hx) hst2 ⟨k2, k3, k5, k9⟩
          · refine go_aload_n hC dX3_laysBestOrder_159 rfl ?_
            refine go_get hC kX3 hM3.1 12 q1764 dX3_laysBestOrder_160 rfl (by decide) (Or.inl rfl) ?_
            refine go_iload hC dX3_laysBestOrder_163 rfl ?_
            refine go_aload_n hC dX3_laysBestOrder_165 rfl ?_
            refine go_get hC kX3 hM3.1 11 q1763 dX3_laysBestOrder_166 rfl (by decide) (Or.inl rfl) ?_
            refine go_iload hC dX3_laysBestOrder_169 rfl ?_
            refine go_iald hC k hM3.2.2.2.2.2.2.1 dX3_laysBestOrder_171 (by first | rfl | (simp only [nI_add, pk_mul, nI_1, Int32.add_zero]; done) | (simp only [nI_add, pk_mul, nI_1, Int32.add_zero]; exact congrArg nI (by omega))) (by omega) (by omega) ?_
            refine go_iast hC k hu_eq dX3_laysBestOrder_172 (by first | rfl | (simp only [nI_add, pk_mul, nI_1, Int32.add_zero]; done) | (simp only [nI_add, pk_mul, nI_1, Int32.add_zero]; exact congrArg nI (by omega))) (by omega) (by omega) ?_
            rw [hu_hu]
            refine go_iinc hC (v := nI (k + 1)) dX3_laysBestOrder_173 rfl (nI_1 _) (by decide) ?_
            refine go_goto hC 150 dX3_laysBestOrder_176 (by decide) ?_
            refine ihc (k + 1) _ (by omega) (by omega) (fun j hj => ?_) hok
            by_cases q : j = k
            · rw [q, pk_us]; rfl
            · rw [pk_un q]; exact hc j (by omega)
        have yes : (pby t (inO bs ord)).1 = bs.length ∧ (ls = -1 ∨ sN (pby t (inO bs ord)).2 4 - sN t 4 < ls) → Go X G (hS G h1 m A s) 0 0 144 [some (.ref m), some (.int ls), some (.int 1), some (.int (bI b)), some (.int s5), some (.int z)] [] := by
          intro hok
          have e12 : hB G (hS G h1 m A s) m A (g1 12) = hS G h1 m A s := hu_id hM2.2.2.2.2.2.2.2.1
          refine go_iload hC dX3_laysBestOrder_144 rfl ?_
          refine go_istore_n hC dX3_laysBestOrder_146 (by decide) ?_
          refine go_iconst hC (0) dX3_laysBestOrder_147 (by decide) ?_
          refine go_istore hC dX3_laysBestOrder_148 (by decide) ?_
          rw [← e12]
          exact copy 0 (g1 12) (Nat.zero_le _) (fun j hj => absurd hj (Nat.not_lt_zero _)) hok
        refine go_iload_n hC dX3_laysBestOrder_129 rfl ?_
        refine go_B_eq hC 179 dX3_laysBestOrder_130 (by decide) rfl (fun c130 => ?_) (fun c130 => ?_)
        · exact fin _ best _ _ _ _ _ (hno (fun z => absurd (c130.symm.trans (hb'.mpr z.1)) (by decide))) hpb hM2 ht2 hr2 ho1 hbe1 hst2 ⟨k2, k3, k5, k9⟩
        · refine go_iload_n hC dX3_laysBestOrder_133 rfl ?_
          refine go_iconst hC (-1) dX3_laysBestOrder_134 (by decide) ?_
          refine go_icmp_eq hC 144 dX3_laysBestOrder_135 (by decide) (fun c135 => ?_) (fun c135 => ?_)
          · exact yes ⟨hb'.mp c130, Or.inl c135⟩
          · refine go_iload hC dX3_laysBestOrder_138 rfl ?_
            refine go_iload_n hC dX3_laysBestOrder_140 rfl ?_
            refine go_icmp_ge hC 179 dX3_laysBestOrder_141 (by decide) (fun c141 => ?_) (fun c141 => ?_)
            · refine fin _ best _ _ _ _ _ (hno (fun z => z.2.elim c135 (fun y => absurd y (i32_nlt.mpr ?_)))) hpb hM2 ht2 hr2 ho1 hbe1 hst2 ⟨k2, k3, k5, k9⟩
              rw [← hs5]; exact c141
            · exact yes ⟨hb'.mp c130, Or.inr (by rw [← hs5]; exact i32_nle.mp c141)⟩
      have copy1 : ∀ (k : Nat) (b : Bool) (s5 : Int32) (s : Nat → Int32), k ≤ 142 → s5 = sN (pby t (inO bs ord)).2 4 - sN t 4 → (b = true ↔ (pby t (inO bs ord)).1 = bs.length) → (∀ j, j < k → s j = g1 14 j) → Go X G (hS G h1 m A s) 0 0 101 [some (.ref m), some (.int ls), some (.int 1), some (.int (bI b)), some (.int s5), some (.int (nI k))] [] := by
        refine lpA (fun k => 142 - k) (fun k ihc b s5 s hk hs5 hb' hs' => ?_)
        have hM2 := hM1.s s
        refine go_iload hC dX3_laysBestOrder_101 rfl ?_
        refine go_sipush hC (nI 142) dX3_laysBestOrder_103 (by decide) ?_
        refine go_N_ge hC 129 dX3_laysBestOrder_106 (by decide) rfl rfl (by omega) (by omega) (fun c106 => ?_) (fun c106 => ?_)
        · exact steps b s5 _ s hs5 hb' (fun j hj => hs' j (by omega))
        · refine go_aload_n hC dX3_laysBestOrder_109 rfl ?_
          refine go_get hC kX3 hM2.1 1 q1753 dX3_laysBestOrder_110 rfl (by decide) (Or.inl rfl) ?_
          refine go_iload hC dX3_laysBestOrder_113 rfl ?_
          refine go_aload_n hC dX3_laysBestOrder_115 rfl ?_
          refine go_get hC kX3 hM2.1 14 q1766 dX3_laysBestOrder_116 rfl (by decide) (Or.inl rfl) ?_
          refine go_iload hC dX3_laysBestOrder_119 rfl ?_
          refine go_iald hC k hM2.2.2.2.2.2.2.2.2.2 dX3_laysBestOrder_121 (by first | rfl | (simp only [nI_add, pk_mul, nI_1, Int32.add_zero]; done) | (simp only [nI_add, pk_mul, nI_1, Int32.add_zero]; exact congrArg nI (by omega))) (by omega) (by omega) ?_
          refine go_iast hC k hu_eq dX3_laysBestOrder_122 (by first | rfl | (simp only [nI_add, pk_mul, nI_1, Int32.add_zero]; done) | (simp only [nI_add, pk_mul, nI_1, Int32.add_zero]; exact congrArg nI (by omega))) (by omega) (by omega) ?_
          rw [hu_hu]
          refine go_iinc hC (v := nI (k + 1)) dX3_laysBestOrder_123 rfl (nI_1 _) (by decide) ?_
          refine go_goto hC 101 dX3_laysBestOrder_126 (by decide) ?_
          refine ihc (k + 1) (by omega) b s5 _ (by omega) hs5 hb' (fun j hj => ?_)
          by_cases q : j = k
          · rw [q, pk_us]; rfl
          · rw [pk_un q]; exact hs' j (by omega)
      refine go_aload_n hC dX3_laysBestOrder_62 rfl ?_
      refine go_aload_n hC dX3_laysBestOrder_63 rfl ?_
      refine go_get hC kX3 hM1.1 11 q1763 dX3_laysBestOrder_64 rfl (by decide) (Or.inl rfl) ?_
      refine go_callV0 hC (c_X3_picksBy hM1 hr1 hw bs ord (A 11) 11 (g1 11) hM1.2.2.2.2.2.2.1 (by decide) hb9 hb2 hb3 ho1 hpo.1 (PO_mem hpo)) (lw_V q1953 q1955 qs57 q83 q1956) hM1.1 rfl dX3_laysBestOrder_67 1 rfl (by decide +kernel) rfl ⟨Nat.le_of_ble_eq_true rfl, Nat.le_of_ble_eq_true rfl⟩ (Nat.le_of_ble_eq_true rfl) ⟨rfl, rfl⟩ ?_
      rintro _ _ ⟨rfl, s2, rfl, hr2⟩
      have hM2 := hM1.s s2
      have e4 : s2 4 = sN (pby t (inO bs ord)).2 4 := hr2.2.2.1 4 (by omega) (by omega)
      have e5 : g1 14 4 = sN t 4 := by rw [hst 4 (by omega)]; exact hr1.2.2.1 4 (by omega) (by omega)
      have go2 : ∀ (b : Bool), (b = true ↔ (pby t (inO bs ord)).1 = bs.length) → Go X G (hS G h1 m A s2) 0 0 82 [some (.ref m), some (.int ls), some (.int 1), z3, z4, z5] [.int (bI b)] := by
        intro b hb'
        refine go_istore_n hC dX3_laysBestOrder_82 (by decide) ?_
        refine go_aload_n hC dX3_laysBestOrder_83 rfl ?_
        refine go_get hC kX3 hM2.1 1 q1753 dX3_laysBestOrder_84 rfl (by decide) (Or.inl rfl) ?_
        refine go_iconst hC (nI 4) dX3_laysBestOrder_87 (by decide) ?_
        refine go_iald hC 4 hM2.2.1 dX3_laysBestOrder_88 (by first | rfl | (simp only [nI_add, pk_mul, nI_1, Int32.add_zero]; done) | (simp only [nI_add, pk_mul, nI_1, Int32.add_zero]; exact congrArg nI (by omega))) (by omega) (by omega) ?_
        refine go_aload_n hC dX3_laysBestOrder_89 rfl ?_
        refine go_get hC kX3 hM2.1 14 q1766 dX3_laysBestOrder_90 rfl (by decide) (Or.inl rfl) ?_
        refine go_iconst hC (nI 4) dX3_laysBestOrder_93 (by decide) ?_
        refine go_iald hC 4 hM2.2.2.2.2.2.2.2.2.2 dX3_laysBestOrder_94 (by first | rfl | (simp only [nI_add, pk_mul, nI_1, Int32.add_zero]; done) | (simp only [nI_add, pk_mul, nI_1, Int32.add_zero]; exact congrArg nI (by omega))) (by omega) (by omega) ?_
        refine go_isub hC dX3_laysBestOrder_95 ?_
        refine go_istore hC dX3_laysBestOrder_96 (by decide) ?_
        refine go_iconst hC (0) dX3_laysBestOrder_98 (by decide) ?_
        refine go_istore hC dX3_laysBestOrder_99 (by decide) ?_
        exact copy1 0 b _ s2 (Nat.zero_le _) (by show s2 4 - g1 14 4 = _; rw [e4, e5]) hb' (fun j hj => absurd hj (Nat.not_lt_zero _))
      refine go_aload_n hC dX3_laysBestOrder_70 rfl ?_
      refine go_get hC kX3 hM2.1 10 q1762 dX3_laysBestOrder_71 rfl (by decide) (Or.inl rfl) ?_
      refine go_N_ne hC 81 dX3_laysBestOrder_74 (by decide) rfl hb2 (by omega) (by omega) (fun c74 => ?_) (fun c74 => ?_)
      · refine go_iconst hC (0) dX3_laysBestOrder_81 (by decide) ?_
        exact go2 false ⟨(fun z => absurd z (by decide)), (fun z => absurd z c74)⟩
      · refine go_iconst hC (1) dX3_laysBestOrder_77 (by decide) ?_
        refine go_goto hC 82 dX3_laysBestOrder_78 (by decide) ?_
        exact go2 true ⟨fun _ => c74, fun _ => rfl⟩
  -- the start
  have init2 : ∀ (i : Nat) (h1 : PH) (g1 : Nat → Nat → Int32) (b12 : Nat → Int32), i ≤ bs.length → MRep G h1 m A f hs g1 → Mto h h1 m → Row (g1 1) t → arL (g1 11) (List.range bs.length) → (∀ j, j < i → b12 j = nI j) → (∀ j, j < 142 → g1 14 j = g1 1 j) → (g1 2 = g 2 ∧ g1 3 = g 3 ∧ g1 5 = g 5 ∧ g1 9 = g 9) → Go X G (hB G h1 m A b12) 0 0 35 [some (.ref m), some (.int (-1)), some (.int (nI i)), none, none, none] [] := by
    refine lpA (fun i => bs.length - i) (fun i ih h1 g1 b12 hi hM1 ht1 hr1 ho1 hb12 hst hkp => ?_)
    have hM2 := hM1.u12 b12
    refine go_iload_n hC dX3_laysBestOrder_35 rfl ?_
    refine go_aload_n hC dX3_laysBestOrder_36 rfl ?_
    refine go_get hC kX3 hM2.1 10 q1762 dX3_laysBestOrder_37 rfl (by decide) (Or.inl rfl) ?_
    refine go_N_ge hC 56 dX3_laysBestOrder_40 (by decide) rfl hb2 (by omega) (by omega) (fun c40 => ?_) (fun c40 => ?_)
    · have ht2 : Mto h (hB G h1 m A b12) m := ht1.st hM1.2.2.2.2.2.2.2.1
      refine go_iconst hC (1) dX3_laysBestOrder_56 (by decide) ?_
      refine go_istore_n hC dX3_laysBestOrder_57 (by decide) ?_
      refine go_iload_n hC dX3_laysBestOrder_58 rfl ?_
      refine go_if_eq hC 187 dX3_laysBestOrder_59 (by decide) (fun z => absurd z (by decide)) (fun _ => ?_)
      exact loop _ layF (-1) (List.range bs.length) (List.range bs.length) _ _ _ _ _ rfl (by unfold layF; omega) (PO_id _) (PO_id _) rfl hM2 ht2 hr1 ho1 (fun j x hx => by
        have hj : j < bs.length := by have := (List.getElem?_eq_some_iff.mp hx).1; rwa [List.length_range] at this
        rw [List.getElem?_range hj] at hx
        cases hx
        exact hb12 j (by omega)) hst hkp
    · refine go_aload_n hC dX3_laysBestOrder_43 rfl ?_
      refine go_get hC kX3 hM2.1 12 q1764 dX3_laysBestOrder_44 rfl (by decide) (Or.inl rfl) ?_
      refine go_iload_n hC dX3_laysBestOrder_47 rfl ?_
      refine go_iload_n hC dX3_laysBestOrder_48 rfl ?_
      refine go_iast hC i hu_eq dX3_laysBestOrder_49 (by first | rfl | (simp only [nI_add, pk_mul, nI_1, Int32.add_zero]; done) | (simp only [nI_add, pk_mul, nI_1, Int32.add_zero]; exact congrArg nI (by omega))) (by omega) (by omega) ?_
      rw [hu_hu]
      refine go_iinc hC (v := nI (i + 1)) dX3_laysBestOrder_50 rfl (nI_1 _) (by decide) ?_
      refine go_goto hC 35 dX3_laysBestOrder_53 (by decide) ?_
      refine ih (i + 1) (by omega) h1 g1 _ (by omega) hM1 ht1 hr1 ho1 (fun j hj => ?_) hst hkp
      by_cases q : j = i
      · rw [q, pk_us]
      · rw [pk_un q]; exact hb12 j (by omega)
  have init1 : ∀ (k : Nat) (s14 : Nat → Int32), k ≤ 142 → (∀ j, j < k → s14 j = g 1 j) → Go X G (hT G h m A s14) 0 0 4 [some (.ref m), some (.int (-1)), some (.int (nI k)), none, none, none] [] := by
    refine lpB (fun k _ => 142 - k) (fun k s14 ih hk hs' => ?_)
    have hM1 : MRep G (hT G h m A s14) m A f hs (va_up g 14 s14) := hM.u14 s14
    refine go_iload_n hC dX3_laysBestOrder_4 rfl ?_
    refine go_sipush hC (nI 142) dX3_laysBestOrder_5 (by decide) ?_
    refine go_N_ge hC 29 dX3_laysBestOrder_8 (by decide) rfl rfl (by omega) (by omega) (fun c8 => ?_) (fun c8 => ?_)
    · have ht1 : Mto h (hT G h m A s14) m := Mto.rf.st hM.2.2.2.2.2.2.2.2.2
      generalize hT G h m A s14 = h1 at hM1 ht1
      refine go_aload_n hC dX3_laysBestOrder_29 rfl ?_
      refine go_callV0 hC (c_X3_firstOrder hM1 bs.length hb2 hb3) (lw_V q1949 q1951 qs56 q83 q1952) hM1.1 rfl dX3_laysBestOrder_30 0 rfl (by decide +kernel) rfl ⟨Nat.le_of_ble_eq_true rfl, Nat.le_of_ble_eq_true rfl⟩ (Nat.le_of_ble_eq_true rfl) ⟨rfl, rfl⟩ ?_
      rintro _ _ ⟨rfl, s2, rfl, hs2⟩
      refine go_iconst hC (0) dX3_laysBestOrder_33 (by decide) ?_
      refine go_istore_n hC dX3_laysBestOrder_34 (by decide) ?_
      have hM2 := hM1.u11 s2
      have ht2 : Mto h (hO G h1 m A s2) m := ht1.st hM1.2.2.2.2.2.2.1
      have e12 : hB G (hO G h1 m A s2) m A (g 12) = hO G h1 m A s2 := hu_id hM2.2.2.2.2.2.2.2.1
      rw [← e12]
      exact init2 0 _ _ _ (Nat.zero_le _) hM2 ht2 hr hs2 (fun j hj => absurd hj (Nat.not_lt_zero _)) (fun j hj => hs' j (by omega)) ⟨rfl, rfl, rfl, rfl⟩
    · refine go_aload_n hC dX3_laysBestOrder_11 rfl ?_
      refine go_get hC kX3 hM1.1 14 q1766 dX3_laysBestOrder_12 rfl (by decide) (Or.inl rfl) ?_
      refine go_iload_n hC dX3_laysBestOrder_15 rfl ?_
      refine go_aload_n hC dX3_laysBestOrder_16 rfl ?_
      refine go_get hC kX3 hM1.1 1 q1753 dX3_laysBestOrder_17 rfl (by decide) (Or.inl rfl) ?_
      refine go_iload_n hC dX3_laysBestOrder_20 rfl ?_
      refine go_iald hC k hM1.2.1 dX3_laysBestOrder_21 (by first | rfl | (simp only [nI_add, pk_mul, nI_1, Int32.add_zero]; done) | (simp only [nI_add, pk_mul, nI_1, Int32.add_zero]; exact congrArg nI (by omega))) (by omega) (by omega) ?_
      refine go_iast hC k hu_eq dX3_laysBestOrder_22 (by first | rfl | (simp only [nI_add, pk_mul, nI_1, Int32.add_zero]; done) | (simp only [nI_add, pk_mul, nI_1, Int32.add_zero]; exact congrArg nI (by omega))) (by omega) (by omega) ?_
      rw [hu_hu]
      refine go_iinc hC (v := nI (k + 1)) dX3_laysBestOrder_23 rfl (nI_1 _) (by decide) ?_
      refine go_goto hC 4 dX3_laysBestOrder_26 (by decide) ?_
      refine ih (k + 1) _ (by omega) (by omega) (fun j hj => ?_)
      by_cases q : j = k
      · rw [q, pk_us]; rfl
      · rw [pk_un q]; exact hs' j (by omega)
  have e0 : hT G h m A (g 14) = h := hu_id hM.2.2.2.2.2.2.2.2.2
  refine go_iconst hC (-1) dX3_laysBestOrder_0 (by decide) ?_
  refine go_istore_n hC dX3_laysBestOrder_1 (by decide) ?_
  refine go_iconst hC (0) dX3_laysBestOrder_2 (by decide) ?_
  refine go_istore_n hC dX3_laysBestOrder_3 (by decide) ?_
  rw [← e0]
  exact init1 0 (g 14) (Nat.zero_le _) (fun j hj => absurd hj (Nat.not_lt_zero _))
theorem c_X3_picksBatch (hM : MRep G h m A f hs g) (hr : Row (g 1) t) (hw : WF c t) (hc : c < 2 ^ 31) (bs : List Nat) (hb : Bat f g bs) (r : Int32) : CT G yX3_picksBatch cX3_picksBatch 2 (some .int) (rmL 9 0 0) [.ref m, .int r] h (fun v h' => v = some (.int (nI (pbat t bs r).1)) ∧ ∃ g', MRep G h' m A f hs g' ∧ Mto h h' m ∧ Row (g' 1) (pbat t bs r).2 ∧ (g' 2 = g 2 ∧ g' 3 = g 3 ∧ g' 5 = g 5 ∧ g' 9 = g 9)) noX := by
  refine CT_of [some (.ref m), some (.int r)] (by decide +kernel) rfl (Nat.le_of_ble_eq_true rfl) (fun X hC hF hE => ?_)
  refine go_iload_n hC dX3_picksBatch_0 rfl ?_
  refine go_iconst hC (1) dX3_picksBatch_1 (by decide) ?_
  refine go_icmp_ne hC 10 dX3_picksBatch_2 (by decide) (fun c2 => ?_) (fun c2 => ?_)
  · refine go_iload_n hC dX3_picksBatch_10 rfl ?_
    refine go_iconst hC (nI 2) dX3_picksBatch_11 (by decide) ?_
    refine go_icmp_ne hC 28 dX3_picksBatch_12 (by decide) (fun c12 => ?_) (fun c12 => ?_)
    · refine go_aload_n hC dX3_picksBatch_28 rfl ?_
      refine go_callV0 hC (c_X3_firstOrder hM bs.length hb.2.1 hb.2.2) (lw_V q1949 q1951 qs56 q83 q1952) hM.1 rfl dX3_picksBatch_29 0 rfl (by decide +kernel) rfl ⟨Nat.le_of_ble_eq_true rfl, Nat.le_of_ble_eq_true rfl⟩ (Nat.le_of_ble_eq_true rfl) ⟨rfl, rfl⟩ ?_
      rintro _ _ ⟨rfl, s1, rfl, hs1⟩
      have hM1 := hM.u11 s1
      have ht1 : Mto h (hO G h m A s1) m := Mto.rf.st hM.2.2.2.2.2.2.1
      have ep : pbat t bs r = pby t (inO bs (List.range bs.length)) := by unfold pbat; rw [if_neg c2, if_neg (show ¬ r = 2 from c12)]
      refine go_aload_n hC dX3_picksBatch_32 rfl ?_
      refine go_aload_n hC dX3_picksBatch_33 rfl ?_
      refine go_get hC kX3 hM1.1 11 q1763 dX3_picksBatch_34 rfl (by decide) (Or.inl rfl) ?_
      refine go_callV0 hC (c_X3_picksBy hM1 hr hw bs (List.range bs.length) (A 11) 11 s1 hM1.2.2.2.2.2.2.1 (by decide) hb.1 hb.2.1 hb.2.2 hs1 (PO_id _).1 (PO_mem (PO_id _))) (lw_V q1953 q1955 qs57 q83 q1956) hM1.1 rfl dX3_picksBatch_37 1 rfl (by decide +kernel) rfl ⟨Nat.le_of_ble_eq_true rfl, Nat.le_of_ble_eq_true rfl⟩ (Nat.le_of_ble_eq_true rfl) ⟨rfl, rfl⟩ ?_
      rintro _ _ ⟨rfl, s2, rfl, hr2⟩
      refine go_iret hC hF dX3_picksBatch_40 rfl rfl ?_
      rw [ep]
      exact ⟨rfl, _, hM1.s s2, ht1.st hM1.2.1, hr2, rfl, rfl, rfl, rfl⟩
    · have ep : pbat t bs r = pby t (inO bs (layB t bs)) := by unfold pbat; rw [if_neg c2, if_pos (show r = 2 from c12)]
      refine go_aload_n hC dX3_picksBatch_15 rfl ?_
      refine go_callV0 hC (c_X3_laysBestOrder hM hr hw bs hb) (lw_V q1945 q1947 qs55 q83 q1948) hM.1 rfl dX3_picksBatch_16 0 rfl (by decide +kernel) rfl ⟨Nat.le_of_ble_eq_true rfl, Nat.le_of_ble_eq_true rfl⟩ (Nat.le_of_ble_eq_true rfl) ⟨rfl, rfl⟩ ?_
      rintro _ h1 ⟨rfl, g1, hM1, ht1, hr1, hbe, ⟨k2, k3, k5, k9⟩, hpo⟩
      refine go_aload_n hC dX3_picksBatch_19 rfl ?_
      refine go_aload_n hC dX3_picksBatch_20 rfl ?_
      refine go_get hC kX3 hM1.1 12 q1764 dX3_picksBatch_21 rfl (by decide) (Or.inl rfl) ?_
      refine go_callV0 hC (c_X3_picksBy hM1 hr1 hw bs (layB t bs) (A 12) 12 (g1 12) hM1.2.2.2.2.2.2.2.1 (by decide) (by rw [k9]; exact hb.1) hb.2.1 hb.2.2 hbe hpo.1 (PO_mem hpo)) (lw_V q1953 q1955 qs57 q83 q1956) hM1.1 rfl dX3_picksBatch_24 1 rfl (by decide +kernel) rfl ⟨Nat.le_of_ble_eq_true rfl, Nat.le_of_ble_eq_true rfl⟩ (Nat.le_of_ble_eq_true rfl) ⟨rfl, rfl⟩ ?_
      rintro _ _ ⟨rfl, s2, rfl, hr2⟩
      refine go_iret hC hF dX3_picksBatch_27 rfl rfl ?_
      rw [ep]
      exact ⟨rfl, _, hM1.s s2, ht1.st hM1.2.1, hr2, k2, k3, k5, k9⟩
  · have ep : pbat t bs r = pckN t (bX bs) := by unfold pbat; rw [if_pos c2]
    refine go_aload_n hC dX3_picksBatch_5 rfl ?_
    refine go_callV0 hC (c_X3_picksNearest hM hr hw hc bs hb) (lw_V q1937 q1939 qs53 q83 q1940) hM.1 rfl dX3_picksBatch_6 0 rfl (by decide +kernel) rfl ⟨Nat.le_of_ble_eq_true rfl, Nat.le_of_ble_eq_true rfl⟩ (Nat.le_of_ble_eq_true rfl) ⟨rfl, rfl⟩ ?_
    rintro _ h1 ⟨rfl, s, s13, hM1, ht1, hr1⟩
    refine go_iret hC hF dX3_picksBatch_9 rfl rfl ?_
    rw [ep]
    exact ⟨rfl, _, hM1, ht1, hr1, rfl, rfl, rfl, rfl⟩
end M5
