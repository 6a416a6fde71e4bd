/-! A BATCH: its items -/
set_option maxRecDepth 100000
def okb (t : St) (x : Int32) : Bool := match itm (sI t) x with
  | none => false
  | some y => !sJ t y.2.2
theorem AllIn_ok {t : St} {xs : List Int32} : AllIn t xs ↔ xs.all (okb t) = true := by
  rw [List.all_eq_true]
  refine ⟨fun h x hx => ?_, fun h x hx => ?_⟩
  · obtain ⟨y, hy, hj⟩ := h x hx
    unfold okb; rw [hy]; show (!sJ t y.2.2) = true; rw [hj]; rfl
  · have h2 := h x hx
    unfold okb at h2
    cases hy : itm (sI t) x with
    | none => rw [hy] at h2; cases h2
    | some y => rw [hy] at h2; exact ⟨y, rfl, by simpa using h2⟩
section BL
variable {G : GT} {h : PH} {b r d : Nat} {C : Nat → Nat} {bs : List Nat} {nu so sb : Nat → Int32} {t : St} {c : Nat} {B : Nat → Nat} {q L S : Nat → Int32} {Z : List Zt}
abbrev fnd (Z : List Zt) (x : Int32) : Option Zt := Z.find? (fun z => isX x z.2.2)
theorem fr_hu {a : Nat} {e e' : va_E} {o : Ow} {h1 : PH} (z : fr P0 h h1) (ha : h1 a = some (o, e)) (hn : h a = none) : fr P0 h (hu h1 a o e') := z.nw2 hn
theorem c_X7_all (hB : BR G h b C bs nu so sb) (hV : RV G h r d t B q L S Z) (hw : WF c t) (hc : c ≤ 64) : CT G yX7_all cX7_all 5 (some (.array (.object "DrawerRing$Item"))) (rmL 6 7 12) [.ref b, .ref r] h (fun v h' => fr P0 h h' ∧ ((v = some .null ∧ ¬ AllIn t (bX bs)) ∨ ∃ a f, v = some (.ref a) ∧ h a = none ∧ h' a = some ((b, 4), oa G 6 bs.length f) ∧ (∀ k x, bs[k]? = some x → f k = (fnd Z (nI x)).map (fun z => z.1)) ∧ AllIn t (bX bs))) noX := by
  refine CT_of [some (.ref b), some (.ref r), none, none, none] (by decide +kernel) rfl (Nat.le_of_ble_eq_true rfl) (fun X hC hF hE => ?_)
  show Go X G h 7 12 0 _ _
  have hl6 := hB.2.2.2.2.2.1
  have iandb : ∀ (x y : Bool), bI x &&& bI y = bI (x && y) := by decide
  refine go_aload_n hC dX7_all_0 rfl ?_
  refine go_get hC kX7 hB.1 3 q656 dX7_all_1 rfl (by decide) (Or.inl rfl) ?_
  refine go_newq hC 6 bs.length (fun _ => (b, 4)) q1486 hC.2.2.2.2.2.1.2.2.1.2.2 rfl rfl (by omega) (by omega) (by omega) dX7_all_4 (fun a an ab => ?_)
  refine go_astore_n hC dX7_all_7 (by decide) ?_
  refine go_iconst hC (1) dX7_all_8 (by decide) ?_
  refine go_istore_n hC dX7_all_9 (by decide) ?_
  refine go_iconst hC (0) dX7_all_10 (by decide) ?_
  refine go_istore hC dX7_all_11 (by decide) ?_
  have loop : ∀ (k : Nat) (h1 : PH) (f : Nat → Option Nat) (z : Bool), k ≤ bs.length → fr P0 h h1 → h1 a = some ((b, 4), oa G 6 bs.length f) → (∀ j x, j < k → bs[j]? = some x → f j = (fnd Z (nI x)).map (fun z => z.1)) → (z && ((bX bs).drop k).all (okb t)) = (bX bs).all (okb t) → Go X G h1 (6 - k) (12 - bs.length - k) 13 [some (.ref b), some (.ref r), some (.ref a), some (.int (bI z)), some (.int (nI k))] [] := by
    refine lpD (fun k _ _ _ => bs.length - k) (fun k h1 f z ih hk hf1 ha1 hfk hz => ?_)
    have hB1 := hB.fr hf1 (fun _ w => w)
    have hV1 := hV.fr hf1 (fun w => w) (fun _ _ w => w)
    have hbl : (bX bs).length = bs.length := List.length_map _
    refine go_iload hC dX7_all_13 rfl ?_
    refine go_aload_n hC dX7_all_15 rfl ?_
    refine go_get hC kX7 hB1.1 3 q656 dX7_all_16 rfl (by decide) (Or.inl rfl) ?_
    refine go_N_ge hC 73 dX7_all_19 (by decide) rfl rfl (by omega) (by omega) (fun c19 => ?_) (fun c19 => ?_)
    · rw [drop_end (by omega), List.all_nil, Bool.and_true] at hz
      refine go_iload_n hC dX7_all_73 rfl ?_
      refine go_B_eq hC 81 dX7_all_74 (by decide) rfl (fun c74 => ?_) (fun c74 => ?_)
      · refine go_null hC dX7_all_81 ?_
        refine go_aret hC hF dX7_all_82 rfl (Or.inr ⟨_, rfl⟩) (Or.inl rfl) ?_
        exact ⟨hf1, Or.inl ⟨rfl, fun w => by rw [AllIn_ok, ← hz, c74] at w; cases w⟩⟩
      · refine go_aload_n hC dX7_all_77 rfl ?_
        refine go_goto hC 82 dX7_all_78 (by decide) ?_
        refine go_aret hC hF dX7_all_82 rfl (Or.inr ⟨_, rfl⟩) (Or.inr ⟨_, rfl⟩) ?_
        exact ⟨hf1, Or.inr ⟨a, f, rfl, an, ha1, fun j x hx => hfk j x (by have := (List.getElem?_eq_some_iff.mp hx).1; omega) hx, by rw [AllIn_ok, ← hz, c74]⟩⟩
    · obtain ⟨x, hx, -⟩ := get_of c19
      have hbx : (bX bs)[k]? = some (nI x) := by show (bs.map nI)[k]? = _; rw [List.getElem?_map, hx]; rfl
      have hdr : (bX bs).drop k = nI x :: (bX bs).drop (k + 1) := by
        obtain ⟨hl, e⟩ := List.getElem?_eq_some_iff.mp hbx
        rw [List.drop_eq_getElem_cons hl, e]
      rw [hdr, List.all_cons] at hz
      have hit := hV1.itmE (nI x)
      refine go_aload_n hC dX7_all_22 rfl ?_
      refine go_iload hC dX7_all_23 rfl ?_
      refine go_aload_n hC dX7_all_25 rfl ?_
      refine go_aload_n hC dX7_all_26 rfl ?_
      refine go_get hC kX7 hB1.1 0 q652 dX7_all_27 rfl (by decide) (Or.inl rfl) ?_
      refine go_iload hC dX7_all_30 rfl ?_
      refine go_iald hC k hB1.2.1 dX7_all_32 (by first | rfl | (simp only [nI_add, pk_mul, nI_1, Int32.add_zero]; done) | (simp only [nI_add, pk_mul, nI_1, Int32.add_zero]; exact congrArg nI (by omega))) (by omega) (by omega) ?_
      rw [hB.2.2.2.2.1 k x hx]
      refine go_callV hC (c_X2_item hV1 hw hc (nI x)) (lw_V q1434 q728 q729 q73 q730) hV1.1.1 rfl dX7_all_33 1 rfl (by decide +kernel) rfl ⟨Nat.le_of_ble_eq_true rfl, Nat.le_of_ble_eq_true rfl⟩ (Nat.le_of_ble_eq_true rfl) (show 1 ≤ 6 - k by omega) (show 1 ≤ 12 - bs.length - k by omega) ?_
      rintro _ h2 ⟨rfl, hf2⟩
      have ha2 := hf2 _ _ _ ha1 (fun w => w)
      have hV2 := hV1.fr hf2 (fun w => w) (fun _ _ w => w)
      have hf12 : fr P0 h h2 := hf1.tr hf2
      have nxt9 : ∀ (f' : Nat → Option Nat) (y : Bool), f' = va_up f k ((fnd Z (nI x)).map (fun z => z.1)) → y = okb t (nI x) → Go X G (hu h2 a (b, 4) (oa G 6 bs.length f')) (6 - k - 1) (12 - bs.length - k - 1) 65 [some (.ref b), some (.ref r), some (.ref a), some (.int (bI z)), some (.int (nI k))] [.int (bI y), .int (bI z)] := by
        intro f' y hf' hy
        refine go_iand hC dX7_all_65 ?_
        rw [iandb]
        refine go_istore_n hC dX7_all_66 (by decide) ?_
        refine go_iinc hC (v := nI (k + 1)) dX7_all_67 rfl (nI_1 _) (by decide) ?_
        refine go_goto hC 13 dX7_all_70 (by decide) ?_
        refine go_le (k' := 6 - (k + 1)) (n' := 12 - bs.length - (k + 1)) (by omega) (by omega) ?_
        refine ih (k + 1) _ f' (z && y) (by omega) (by omega) (fr_hu hf12 ha2 an) hu_eq (fun j x' hj hx' => ?_) ?_
        · rw [hf']
          by_cases e : j = k
          · subst e
            rw [hx] at hx'; cases hx'
            exact if_pos rfl
          · rw [show va_up f k ((fnd Z (nI x)).map (fun z => z.1)) j = f j from if_neg e]
            exact hfk j x' (by omega) hx'
        · rw [hy, Bool.and_assoc]; exact hz
      cases hfd : Z.find? (fun z => isX (nI x) z.2.2) with
      | none =>
        rw [hfd] at hit
        have hok : okb t (nI x) = false := by unfold okb; rw [hit]; rfl
        refine go_aastN hC k ha2 rfl dX7_all_36 (by first | rfl | (simp only [nI_add, pk_mul, nI_1, Int32.add_zero]; done) | (simp only [nI_add, pk_mul, nI_1, Int32.add_zero]; exact congrArg nI (by omega))) (by omega) (by omega) ?_
        refine go_iload_n hC dX7_all_37 rfl ?_
        refine go_aload_n hC dX7_all_38 rfl ?_
        refine go_iload hC dX7_all_39 rfl ?_
        refine go_aaldN hC k hu_eq rfl dX7_all_41 (by first | rfl | (simp only [nI_add, pk_mul, nI_1, Int32.add_zero]; done) | (simp only [nI_add, pk_mul, nI_1, Int32.add_zero]; exact congrArg nI (by omega))) (by omega) (by omega) (if_pos rfl) ?_
        refine go_ifnullN hC 64 dX7_all_42 (by decide) ?_
        refine go_iconst hC (0) dX7_all_64 (by decide) ?_
        exact nxt9 _ false (by show _ = va_up f k (Option.map _ (Z.find? (fun z => isX (nI x) z.2.2))); rw [hfd]; rfl) hok.symm
      | some zz =>
        rw [hfd] at hit
        have hzm := List.mem_of_find?_eq_some hfd
        have zc := (hV2.2.2.2.2.1.2.2 zz hzm).2.1
        have hd12 := (hV.mem hw hzm).2
        have hok : okb t (nI x) = !sJ t zz.2.2.2.2 := by unfold okb; rw [hit]; rfl
        obtain ⟨JJ, hJ1, hJ2⟩ := hV2.1.2.2.1
        have hne : a ≠ zz.1 := (oa_ne zc ha2).symm
        have hk3 : ∀ {x : Nat} {o : Ow} {e e' : va_E}, h2 x = some (o, e) → x ≠ a → hu h2 a (b, 4) e' x = some (o, e) := fun hx hn => by rw [hu_ne hn]; exact hx
        have hr3 : ∀ e', hu h2 a (b, 4) e' r = _ := fun e' => hk3 hV2.1.1 (fun e => by have h9 := hV.1.1; rw [e, an] at h9; cases h9)
        have hj3 : ∀ e', hu h2 a (b, 4) e' (B 3) = _ := fun e' => hk3 hJ1 (fun e => by
          obtain ⟨JJ0, h9, -⟩ := hV.1.2.2.1
          rw [e, an] at h9; cases h9)
        have hz3 : ∀ e', hu h2 a (b, 4) e' zz.1 = _ := fun e' => hk3 zc (Ne.symm hne)
        refine go_aast hC k ha2 rfl zc rfl dX7_all_36 (by first | rfl | (simp only [nI_add, pk_mul, nI_1, Int32.add_zero]; done) | (simp only [nI_add, pk_mul, nI_1, Int32.add_zero]; exact congrArg nI (by omega))) (by omega) (by omega) ?_
        refine go_iload_n hC dX7_all_37 rfl ?_
        refine go_aload_n hC dX7_all_38 rfl ?_
        refine go_iload hC dX7_all_39 rfl ?_
        refine go_aald hC k hu_eq rfl dX7_all_41 (by first | rfl | (simp only [nI_add, pk_mul, nI_1, Int32.add_zero]; done) | (simp only [nI_add, pk_mul, nI_1, Int32.add_zero]; exact congrArg nI (by omega))) (by omega) (by omega) (if_pos rfl) ?_
        refine go_ifnull hC dX7_all_42 ?_
        refine go_aload_n hC dX7_all_45 rfl ?_
        refine go_getN hC kX2 (hr3 _) 3 q191 dX7_all_46 rfl (by decide) (Or.inl rfl) ?_
        refine go_aload_n hC dX7_all_49 rfl ?_
        refine go_iload hC dX7_all_50 rfl ?_
        refine go_aald hC k hu_eq rfl dX7_all_52 (by first | rfl | (simp only [nI_add, pk_mul, nI_1, Int32.add_zero]; done) | (simp only [nI_add, pk_mul, nI_1, Int32.add_zero]; exact congrArg nI (by omega))) (by omega) (by omega) (if_pos rfl) ?_
        refine go_getN hC kX4 (hz3 _) 2 q1234 dX7_all_53 rfl (by decide) (Or.inl rfl) ?_
        refine go_zald hC zz.2.2.2.2 (hj3 _) dX7_all_56 (by first | rfl | (simp only [nI_add, pk_mul, nI_1, Int32.add_zero]; done) | (simp only [nI_add, pk_mul, nI_1, Int32.add_zero]; exact congrArg nI (by omega))) (by omega) (by omega) ?_
        rw [hJ2 _ hd12]
        refine go_B_ne hC 64 dX7_all_57 (by decide) rfl (fun c57 => ?_) (fun c57 => ?_)
        · refine go_iconst hC (0) dX7_all_64 (by decide) ?_
          exact nxt9 _ false (by show _ = va_up f k (Option.map _ (Z.find? (fun z => isX (nI x) z.2.2))); rw [hfd]; rfl) (by rw [hok, c57]; rfl)
        · refine go_iconst hC (1) dX7_all_60 (by decide) ?_
          refine go_goto hC 65 dX7_all_61 (by decide) ?_
          exact nxt9 _ true (by show _ = va_up f k (Option.map _ (Z.find? (fun z => isX (nI x) z.2.2))); rw [hfd]; rfl) (by rw [hok, c57]; rfl)
  exact loop 0 _ (fun _ => none) true (Nat.zero_le _) (fr.rf.nw an) hu_eq (fun j x hj => absurd hj (Nat.not_lt_zero _)) (by rw [Bool.true_and]; rfl)
end BL
