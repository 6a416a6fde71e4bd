/-! A BATCH: the next order; a new batch -/
set_option maxRecDepth 100000
section BN
variable {G : GT} {h : PH} {b r d : Nat} {C : Nat → Nat} {bs : List Nat} {nu so sb : Nat → Int32} {t : St} {c : Nat}
abbrev hC1 (G : GT) (h : PH) (C : Nat → Nat) (b : Nat) (s : Nat → Int32) : PH := hu h (C 1) (b, 2) (ia G 6 s)
theorem c_X7_next (hB : BR G h b C bs nu so sb) (p : List Nat) (n : Nat) (hk : bs.length = n) (hp : arL so p) (hpo : PO n p) : CT G yX7_next cX7_next 5 (some .boolean) (rmL 2 0 0) [.ref b] h (fun v h' => v = some (.int (bI (nxt p).isSome)) ∧ ∃ s, hC1 G h C b s = h' ∧ arL s ((nxt p).getD p)) noX := by
  refine CT_of [some (.ref b), none, none, none, none] (by decide +kernel) rfl (Nat.le_of_ble_eq_true rfl) (fun X hC hF hE => ?_)
  have hl := hpo.1
  have hn : n ≤ 6 := by rw [← hk]; exact hB.2.2.2.2.2.1
  have e0 : hC1 G h C b so = h := hu_id hB.2.2.1
  have loop3 : ∀ (a bb : Nat) (q : List Nat) (s : Nat → Int32) (i : Nat) (z : Int32) (r : List Nat), nxt p = some r → bb < n → a ≤ n → arL s q → q.length = n → (∃ fu, bb ≤ a + fu ∧ rvs fu q a bb = r) → Go X G (hC1 G h C b s) 0 0 86 [some (.ref b), some (.int (nI i)), some (.int z), some (.int (nI a)), some (.int (nI bb))] [] := by
    refine lpC (fun _ bb _ => bb) (fun a bb q ih s i z r hr hbn han hs hql hfu => ?_)
    have hB1 := hB.uo s
    obtain ⟨fu, hf1, hf2⟩ := hfu
    by_cases hab : a < bb
    · cases fu with
      | zero => exact absurd hf1 (by omega)
      | succ fu =>
        have hd : rvs (fu + 1) q a bb = rvs fu (swp q a bb) (a + 1) (bb - 1) := by
          show ite _ _ _ = _; rw [if_pos hab]
        rw [hd] at hf2
        cases bb with
        | zero => exact absurd hab (Nat.not_lt_zero _)
        | succ bb =>
          refine go_iload_n hC dX7_next_86 rfl ?_
          refine go_iload hC dX7_next_87 rfl ?_
          refine go_N_ge hC 108 dX7_next_89 (by decide) rfl rfl (by omega) (by omega) (fun z => absurd z (Nat.not_le.mpr hab)) (fun c89 => ?_)
          refine go_aload_n hC dX7_next_92 rfl ?_
          refine go_iload_n hC dX7_next_93 rfl ?_
          refine go_iload hC dX7_next_94 rfl ?_
          refine go_callV0 hC (c_X7_swap hB1 q hs (by omega) a (bb + 1) (by omega) (by omega)) (lw_V q1497 q1499 qs30 q110 q1500) hB1.1 rfl dX7_next_96 2 rfl (by decide +kernel) rfl ⟨Nat.le_of_ble_eq_true rfl, Nat.le_of_ble_eq_true rfl⟩ (Nat.le_of_ble_eq_true rfl) ⟨rfl, rfl⟩ ?_
          rintro _ _ ⟨rfl, s2, rfl, hs2⟩
          rw [hu_hu]
          refine go_iinc hC (v := nI (a + 1)) dX7_next_99 rfl (nI_1 _) (by decide) ?_
          refine go_iinc hC (v := nI (bb)) dX7_next_102 rfl (pk_m1 _) (by decide) ?_
          refine go_goto hC 86 dX7_next_105 (by decide) ?_
          exact ih (a + 1) bb _ (Nat.lt_succ_self _) s2 i z r hr (by omega) (by omega) hs2 (by rw [swp_len]; exact hql) ⟨fu, by omega, hf2⟩
    · have hd : rvs fu q a bb = q := by
        cases fu with
        | zero => rfl
        | succ fu => show ite _ _ _ = _; rw [if_neg hab]
      refine go_iload_n hC dX7_next_86 rfl ?_
      refine go_iload hC dX7_next_87 rfl ?_
      refine go_N_ge hC 108 dX7_next_89 (by decide) rfl rfl (by omega) (by omega) (fun c89 => ?_) (fun z => absurd z hab)
      refine go_iconst hC (1) dX7_next_108 (by decide) ?_
      refine go_iret hC hF dX7_next_109 rfl rfl ?_
      rw [hr]
      refine ⟨rfl, s, rfl, ?_⟩
      show arL s r
      rw [← hf2, hd]; exact hs
  have loop2 : ∀ (w i : Nat), nxF p (p.length - 1) = some i → i + 1 ≤ n → w < n → nxW p (p.getD i 0) w = nxW p (p.getD i 0) (p.length - 1) → i + 1 ≤ w → Go X G h 0 0 47 [some (.ref b), some (.int (nI i)), some (.int (nI w)), none, none] [] := by
    refine lpA (fun w => w) (fun w ih i hf hi hw he hiw => ?_)
    have hfo := nxF_ok p _ _ hf
    refine go_aload_n hC dX7_next_47 rfl ?_
    refine go_get hC kX7 hB.1 1 q654 dX7_next_48 rfl (by decide) (Or.inl rfl) ?_
    refine go_iload_n hC dX7_next_51 rfl ?_
    refine go_iald hC w hB.2.2.1 dX7_next_52 (by first | rfl | (simp only [nI_add, pk_mul, nI_1, Int32.add_zero]; done) | (simp only [nI_add, pk_mul, nI_1, Int32.add_zero]; exact congrArg nI (by omega))) (by omega) (by omega) ?_
    rw [arL_get hp (show w < p.length by omega)]
    refine go_aload_n hC dX7_next_53 rfl ?_
    refine go_get hC kX7 hB.1 1 q654 dX7_next_54 rfl (by decide) (Or.inl rfl) ?_
    refine go_iload_n hC dX7_next_57 rfl ?_
    refine go_iald hC i hB.2.2.1 dX7_next_58 (by first | rfl | (simp only [nI_add, pk_mul, nI_1, Int32.add_zero]; done) | (simp only [nI_add, pk_mul, nI_1, Int32.add_zero]; exact congrArg nI (by omega))) (by omega) (by omega) ?_
    rw [arL_get hp (show i < p.length by omega)]
    refine go_N_ge hC 68 dX7_next_59 (by decide) rfl rfl (Nat.lt_of_lt_of_le (hpo.2.1 w hw) (by omega)) (Nat.lt_of_lt_of_le (hpo.2.1 i (by omega)) (by omega)) (fun c59 => ?_) (fun c59 => ?_)
    · have hwe : nxW p (p.getD i 0) w = w := by
        cases w with
        | zero => rfl
        | succ w => show ite _ _ _ = _; rw [if_neg (Nat.not_lt.mpr c59)]
      rw [hwe] at he
      have e1 : nI bs.length - 1 = nI (n - 1) := by rw [hk]; exact pk_sub (b := 1) (by omega)
      refine go_aload_n hC dX7_next_68 rfl ?_
      refine go_iload_n hC dX7_next_69 rfl ?_
      refine go_iload_n hC dX7_next_70 rfl ?_
      refine go_callV0 hC (c_X7_swap hB p hp (by omega) i w (by omega) (by omega)) (lw_V q1497 q1499 qs30 q110 q1500) hB.1 rfl dX7_next_71 2 rfl (by decide +kernel) rfl ⟨Nat.le_of_ble_eq_true rfl, Nat.le_of_ble_eq_true rfl⟩ (Nat.le_of_ble_eq_true rfl) ⟨rfl, rfl⟩ ?_
      rintro _ _ ⟨rfl, s2, rfl, hs2⟩
      refine go_iload_n hC dX7_next_74 rfl ?_
      refine go_iconst hC (1) dX7_next_75 (by decide) ?_
      refine go_iadd hC dX7_next_76 ?_
      rw [nI_1]
      refine go_istore_n hC dX7_next_77 (by decide) ?_
      refine go_aload_n hC dX7_next_78 rfl ?_
      refine go_get hC kX7 (hB.uo s2).1 3 q656 dX7_next_79 rfl (by decide) (Or.inl rfl) ?_
      refine go_iconst hC (1) dX7_next_82 (by decide) ?_
      refine go_isub hC dX7_next_83 ?_
      rw [e1]
      refine go_istore hC dX7_next_84 (by decide) ?_
      refine loop3 (i + 1) (n - 1) _ s2 i _ (rvs p.length (swp p i w) (i + 1) (p.length - 1)) ?_ (by omega) (by omega) hs2 (by rw [swp_len]; exact hl) ⟨p.length, by omega, by rw [hl]⟩
      unfold nxt
      rw [hf, he]
    · cases w with
      | zero => exact absurd hiw (by omega)
      | succ w =>
        have hwe : nxW p (p.getD i 0) (w + 1) = nxW p (p.getD i 0) w := by show ite _ _ _ = _; rw [if_pos c59]
        rw [hwe] at he
        have hiw2 : i + 1 ≤ w := by
          rcases Nat.lt_or_ge i w with z | z
          · omega
          · have : i = w := by omega
            subst this
            exact absurd c59 hfo.2
        refine go_iinc hC (v := nI (w)) dX7_next_62 rfl (pk_m1 _) (by decide) ?_
        refine go_goto hC 47 dX7_next_65 (by decide) ?_
        exact ih w (by omega) i hf hi (by omega) he hiw2
  have tail : ∀ (i : Nat), nxF p (p.length - 1) = some i → i + 1 ≤ n → Go X G h 0 0 40 [some (.ref b), some (.int (nI i)), none, none, none] [] := by
    intro i hf hi
    have hfo := nxF_ok p _ _ hf
    have e1 : nI bs.length - 1 = nI (n - 1) := by rw [hk]; exact pk_sub (b := 1) (by omega)
    refine go_aload_n hC dX7_next_40 rfl ?_
    refine go_get hC kX7 hB.1 3 q656 dX7_next_41 rfl (by decide) (Or.inl rfl) ?_
    refine go_iconst hC (1) dX7_next_44 (by decide) ?_
    refine go_isub hC dX7_next_45 ?_
    rw [e1]
    refine go_istore_n hC dX7_next_46 (by decide) ?_
    exact loop2 (n - 1) i hf hi (by omega) (by rw [hl]) (by omega)
  have neg : ∀ (x : Int32), x < 0 → nxF p (p.length - 1) = none → Go X G h 0 0 7 [some (.ref b), some (.int x), none, none, none] [] := by
    intro x hx hf
    refine go_iload_n hC dX7_next_7 rfl ?_
    refine go_if_lt hC 34 dX7_next_8 (by decide) (fun _ => ?_) (fun z => absurd hx z)
    refine go_iload_n hC dX7_next_34 rfl ?_
    refine go_if_ge hC 40 dX7_next_35 (by decide) (fun z => absurd z (i32_nle.mpr hx)) (fun _ => ?_)
    refine go_iconst hC (0) dX7_next_38 (by decide) ?_
    refine go_iret hC hF dX7_next_39 rfl rfl ?_
    have hn0 : nxt p = none := by unfold nxt; rw [hf]
    rw [hn0]
    exact ⟨rfl, so, e0, hp⟩
  have loop1 : ∀ (k : Nat), k + 2 ≤ n → nxF p (k + 1) = nxF p (p.length - 1) → Go X G h 0 0 7 [some (.ref b), some (.int (nI k)), none, none, none] [] := by
    refine lpA (fun k => k) (fun k ih hk1 he => ?_)
    refine go_iload_n hC dX7_next_7 rfl ?_
    refine go_if_lt hC 34 dX7_next_8 (by decide) (fun z => absurd z (nI_pos (by omega))) (fun _ => ?_)
    refine go_aload_n hC dX7_next_11 rfl ?_
    refine go_get hC kX7 hB.1 1 q654 dX7_next_12 rfl (by decide) (Or.inl rfl) ?_
    refine go_iload_n hC dX7_next_15 rfl ?_
    refine go_iald hC k hB.2.2.1 dX7_next_16 (by first | rfl | (simp only [nI_add, pk_mul, nI_1, Int32.add_zero]; done) | (simp only [nI_add, pk_mul, nI_1, Int32.add_zero]; exact congrArg nI (by omega))) (by omega) (by omega) ?_
    rw [arL_get hp (show k < p.length by omega)]
    refine go_aload_n hC dX7_next_17 rfl ?_
    refine go_get hC kX7 hB.1 1 q654 dX7_next_18 rfl (by decide) (Or.inl rfl) ?_
    refine go_iload_n hC dX7_next_21 rfl ?_
    refine go_iconst hC (1) dX7_next_22 (by decide) ?_
    refine go_iadd hC dX7_next_23 ?_
    refine go_iald hC (k+1) hB.2.2.1 dX7_next_24 (by first | rfl | (simp only [nI_add, pk_mul, nI_1, Int32.add_zero]; done) | (simp only [nI_add, pk_mul, nI_1, Int32.add_zero]; exact congrArg nI (by omega))) (by omega) (by omega) ?_
    rw [arL_get hp (show k + 1 < p.length by omega)]
    refine go_N_le hC 34 dX7_next_25 (by decide) rfl rfl (Nat.lt_of_lt_of_le (hpo.2.1 k (by omega)) (by omega)) (Nat.lt_of_lt_of_le (hpo.2.1 (k+1) (by omega)) (by omega)) (fun c25 => ?_) (fun c25 => ?_)
    · have hf : nxF p (p.length - 1) = some k := by rw [← he]; show ite _ _ _ = _; rw [if_neg (Nat.not_lt.mpr c25)]
      refine go_iload_n hC dX7_next_34 rfl ?_
      refine go_if_ge hC 40 dX7_next_35 (by decide) (fun _ => ?_) (fun z => absurd (nI_pos' (by omega)) z)
      exact tail k hf (by omega)
    · have hf : nxF p (p.length - 1) = nxF p k := by rw [← he]; show ite _ _ _ = _; rw [if_pos c25]
      cases k with
      | zero =>
        refine go_iinc hC dX7_next_28 rfl rfl (by decide) ?_
        refine go_goto hC 7 dX7_next_31 (by decide) ?_
        exact neg _ (by decide) hf
      | succ k =>
        refine go_iinc hC (v := nI (k)) dX7_next_28 rfl (pk_m1 _) (by decide) ?_
        refine go_goto hC 7 dX7_next_31 (by decide) ?_
        exact ih k (by omega) (by omega) hf.symm
  rcases Nat.lt_or_ge n 2 with q | q
  · have hx : nI bs.length - nI 2 < 0 := by
      rw [hk]
      rcases (show n = 0 ∨ n = 1 by omega) with z | z <;> rw [z] <;> decide
    refine go_aload_n hC dX7_next_0 rfl ?_
    refine go_get hC kX7 hB.1 3 q656 dX7_next_1 rfl (by decide) (Or.inl rfl) ?_
    refine go_iconst hC (nI 2) dX7_next_4 (by decide) ?_
    refine go_isub hC dX7_next_5 ?_
    refine go_istore_n hC dX7_next_6 (by decide) ?_
    exact neg _ hx (by rw [show p.length - 1 = 0 by omega]; rfl)
  · have hx : nI bs.length - nI 2 = nI (n - 2) := by rw [hk]; exact pk_sub q
    refine go_aload_n hC dX7_next_0 rfl ?_
    refine go_get hC kX7 hB.1 3 q656 dX7_next_1 rfl (by decide) (Or.inl rfl) ?_
    refine go_iconst hC (nI 2) dX7_next_4 (by decide) ?_
    refine go_isub hC dX7_next_5 ?_
    rw [hx]
    refine go_istore_n hC dX7_next_6 (by decide) ?_
    exact loop1 (n - 2) (by omega) (by rw [show n - 2 + 1 = p.length - 1 by omega])
theorem c_X7_init (hb : h b = some ((b, 0), ob 5 nfX7)) : CT G yX7_init cX7_init 1 none (rmL 1 3 19) [.ref b] h (fun v h' => v = none ∧ (∃ C nu so sb, BR G h' b C [] nu so sb) ∧ fr (fun o => o.1 = b) h h') noX := by
  refine CT_ofI [some (.ref b)] (by decide +kernel) rfl (Nat.le_of_ble_eq_true rfl) (fun X hC hF hE hI => ?_)
  show Go X G h 3 19 0 _ _
  refine go_aload_n hC dX7_init_0 rfl ?_
  refine go_objI hC q651 q118 q119 (Nat.le_of_ble_eq_true rfl) ⟨Nat.le_of_ble_eq_true rfl, Nat.le_of_ble_eq_true rfl⟩ dX7_init_1 ?_
  refine go_aload_n hC dX7_init_4 rfl ?_
  refine go_bipush hC (nI 7) dX7_init_5 (by decide) ?_
  refine go_newa hC (atype := .int) 0 7 (fun _ => (b, 1)) (a0 := (7, .inl (fun _ => 0))) q230 rfl rfl (fun _ => rfl) rfl (by omega) (by decide) (by omega) (by omega) dX7_init_7 (fun x xn xb => ?_)
  refine go_putF hC hI kX7 (hu_n xn hb) 0 q652 dX7_init_9 (by decide) (Nat.le_of_ble_eq_true rfl) (Or.inl rfl) rfl rfl rfl rfl ?_
  have hb1 : hu (hu h x (b, 1) (ia G 7 (fun _ => 0))) b (b, 0) (ob 5 (nfX7.set 0 (.ref x))) b = some ((b, 0), ob 5 [.ref x, .null, .null, .int 0]) := by rw [hu_eq]; rfl
  have hx1 : hu (hu h x (b, 1) (ia G 7 (fun _ => 0))) b (b, 0) (ob 5 (nfX7.set 0 (.ref x))) x = some ((b, 1), ia G 7 (fun _ => 0)) := hu_k hu_eq (hu_n xn hb) (ow_ne (by decide))
  have hf1 : fr (fun o => o.1 = b) h (hu (hu h x (b, 1) (ia G 7 (fun _ => 0))) b (b, 0) (ob 5 (nfX7.set 0 (.ref x)))) := (fr.rf.nw xn).up (hu_n xn hb) rfl
  generalize hu (hu h x (b, 1) (ia G 7 (fun _ => 0))) b (b, 0) (ob 5 (nfX7.set 0 (.ref x))) = h1 at hb1 hx1 hf1
  refine go_aload_n hC dX7_init_12 rfl ?_
  refine go_bipush hC (nI 6) dX7_init_13 (by decide) ?_
  refine go_newa hC (atype := .int) 0 6 (fun _ => (b, 2)) (a0 := (6, .inl (fun _ => 0))) q230 rfl rfl (fun _ => rfl) rfl (by omega) (by decide) (by omega) (by omega) dX7_init_15 (fun y yn yb => ?_)
  refine go_putF hC hI kX7 (hu_n yn hb1) 1 q654 dX7_init_17 (by decide) (Nat.le_of_ble_eq_true rfl) (Or.inl rfl) rfl rfl rfl rfl ?_
  have hb2 : hu (hu h1 y (b, 2) (ia G 6 (fun _ => 0))) b (b, 0) (ob 5 ([.ref x, .null, .null, .int 0].set 1 (.ref y))) b = some ((b, 0), ob 5 [.ref x, .ref y, .null, .int 0]) := by rw [hu_eq]; rfl
  have hy2 : hu (hu h1 y (b, 2) (ia G 6 (fun _ => 0))) b (b, 0) (ob 5 ([.ref x, .null, .null, .int 0].set 1 (.ref y))) y = some ((b, 2), ia G 6 (fun _ => 0)) := hu_k hu_eq (hu_n yn hb1) (ow_ne (by decide))
  have hx2 : hu (hu h1 y (b, 2) (ia G 6 (fun _ => 0))) b (b, 0) (ob 5 ([.ref x, .null, .null, .int 0].set 1 (.ref y))) x = some ((b, 1), ia G 7 (fun _ => 0)) := hu_k (hu_n yn hx1) (hu_n yn hb1) (ow_ne (by decide))
  have hf2 : fr (fun o => o.1 = b) h (hu (hu h1 y (b, 2) (ia G 6 (fun _ => 0))) b (b, 0) (ob 5 ([.ref x, .null, .null, .int 0].set 1 (.ref y)))) := (hf1.nw yn).up (hu_n yn hb1) rfl
  generalize hu (hu h1 y (b, 2) (ia G 6 (fun _ => 0))) b (b, 0) (ob 5 ([.ref x, .null, .null, .int 0].set 1 (.ref y))) = h2 at hb2 hy2 hx2 hf2
  refine go_aload_n hC dX7_init_20 rfl ?_
  refine go_bipush hC (nI 6) dX7_init_21 (by decide) ?_
  refine go_newa hC (atype := .int) 0 6 (fun _ => (b, 3)) (a0 := (6, .inl (fun _ => 0))) q230 rfl rfl (fun _ => rfl) rfl (by omega) (by decide) (by omega) (by omega) dX7_init_23 (fun z zn zb => ?_)
  refine go_putF hC hI kX7 (hu_n zn hb2) 2 q655 dX7_init_25 (by decide) (Nat.le_of_ble_eq_true rfl) (Or.inl rfl) rfl rfl rfl rfl ?_
  refine go_vret hC hF dX7_init_28 rfl ?_
  refine ⟨rfl, ⟨fun k => if k = 0 then x else if k = 1 then y else z, fun _ => 0, fun _ => 0, fun _ => 0, hu_eq, hu_k (hu_n zn hx2) (hu_n zn hb2) (ow_ne (by decide)), hu_k (hu_n zn hy2) (hu_n zn hb2) (ow_ne (by decide)), hu_k hu_eq (hu_n zn hb2) (ow_ne (by decide)), arL_nil, by decide, fun x hx => by cases hx⟩, (hf2.nw zn).up (hu_n zn hb2) rfl⟩
end BN
