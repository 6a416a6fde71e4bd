/-! THE RING: an item is picked; a new ring -/
set_option maxRecDepth 100000
theorem erase_map {α β : Type} (f : α → β) (l : List α) (i : Nat) : (l.map f).eraseIdx i = (l.eraseIdx i).map f := by
  rw [List.eraseIdx_eq_take_drop_succ, List.eraseIdx_eq_take_drop_succ, List.map_append, List.map_take, List.map_drop]
/-- a new ring -/
def st0 : St := (fun k => if k = 0 then 60 else if k = 1 then 50 else 0, fun _ => false, 0, 0, [])
section PK
variable {G : GT} {h : PH} {r d : Nat} {t : St} {B : Nat → Nat} {q L S : Nat → Int32} {Z : List Zt} {c : Nat}
theorem fo_i {r i : Nat} (hi : i = 0 ∨ i = 2 ∨ i = 8 ∨ 3 ≤ i ∧ i ≤ 5 ∨ 16 ≤ i) : ¬ fo1 (r, 1) (r, 7) (r, i) := fun e => by
  rcases e with e | e
  · have := congrArg Prod.snd e; dsimp at this; omega
  · have := congrArg Prod.snd e; dsimp at this; omega
theorem fo_9 {r d : Nat} : ¬ fo1 (r, 1) (r, 7) (d, 9) := fun e => by
  rcases e with e | e
  · have := congrArg Prod.snd e; dsimp at this; omega
  · have := congrArg Prod.snd e; dsimp at this; omega
theorem fo_m {r : Nat} (o : Ow) (ho : Pm r o) : ¬ fo1 (r, 1) (r, 7) o := fun e => by
  obtain ⟨h1, h2⟩ := ho
  rcases e with e | e <;> rw [e] at h2 <;> dsimp at h2 <;> omega
theorem pm_i {r i : Nat} (hi : i = 0 ∨ i = 1 ∨ i = 7 ∨ 3 ≤ i ∧ i ≤ 5 ∨ 16 ≤ i ∧ i % 2 = 0) : ¬ Pm r (r, i) := fun e => by
  have := e.2; dsimp at this; omega
theorem pm_9 {r d : Nat} : ¬ Pm r (d, 9) := fun e => by have := e.2; dsimp at this; omega
theorem pos_at {l : List It} {i : Nat} {y : It} (hn : (l.map (fun x => x.1)).Nodup) (h64 : ∀ x ∈ l, x.1 < 64) (hi : l[i]? = some y) : pos l (nI y.1) = some i ∧ itm l (nI y.1) = some y := by
  have hil := (List.getElem?_eq_some_iff.mp hi).1
  have hb : ∀ (j : Nat) (x : It), j < i → l[j]? = some x → isX (nI y.1) x = false := fun j x hj hx => by
    have h1 : (l.map (fun x => x.1))[j]? = some x.1 := by rw [List.getElem?_map, hx]; rfl
    have h2 : (l.map (fun x => x.1))[i]? = some y.1 := by rw [List.getElem?_map, hi]; rfl
    unfold isX
    refine beq_false_of_ne (fun e => ?_)
    have a1 := h64 x (List.mem_of_getElem? hx)
    have a2 := h64 y (List.mem_of_getElem? hi)
    have e2 : x.1 = y.1 := (nI_eq (by omega) (by omega)).mp e
    rw [e2] at h1
    have hjl : j < (l.map (fun x => x.1)).length := by rw [List.length_map]; omega
    have := (List.getElem?_inj hjl hn).mp (h1.trans h2.symm)
    omega
  have hp : isX (nI y.1) y = true := by unfold isX; simp
  exact ⟨fI_some hi hp hb, f_some hi hp hb⟩
theorem ld_erase {l : List It} {i : Nat} {y : It} (hi : l[i]? = some y) (o : Nat) : ld (l.eraseIdx i) o = ld l o - (if y.2.2 = o then y.2.1 else 0) := by
  have e1 : l.eraseIdx i = l.take i ++ l.drop (i + 1) := List.eraseIdx_eq_take_drop_succ l i
  have e2 : l = l.take i ++ ([y] ++ l.drop (i + 1)) := by
    obtain ⟨hl, e⟩ := List.getElem?_eq_some_iff.mp hi
    conv => lhs; rw [← List.take_append_drop i l]
    rw [List.drop_eq_getElem_cons hl, e]
    rfl
  have e3 : ld l o = ld (l.take i) o + (ld [y] o + ld (l.drop (i + 1)) o) := by
    conv => lhs; rw [e2]
    rw [ld_app, ld_app]
  rw [e1, ld_app, e3, ld_one]
  grind
theorem zi_it (hV : RV G h r d t B q L S Z) {i : Nat} {z : Zt} (hz : Z[i]? = some z) : (sI t)[i]? = some z.2.2 := by
  rw [← hV.2.2.2.2.2, List.getElem?_map, hz]; rfl
theorem zi_pos (hV : RV G h r d t B q L S Z) (hw : WF c t) {i : Nat} {z : Zt} (hz : Z[i]? = some z) : pos (sI t) (nI (zN z)) = some i ∧ itm (sI t) (nI (zN z)) = some z.2.2 := by
  refine pos_at hw.2.2.2.2.1 (fun x hx => ?_) (zi_it hV hz)
  rw [← hV.2.2.2.2.2] at hx
  obtain ⟨y, hy, e⟩ := List.mem_map.mp hx
  rw [← e]
  exact hV.z64 y hy
theorem c_X2_pick (hV : RV G h r d t B q L S Z) (hw : WF c t) (hdr : d ≠ r) {i : Nat} {z : Zt} (hz : Z[i]? = some z) (hway : way t z.2.2.2.2 ≠ 99) : CT G yX2_pick cX2_pick 3 (some .int) (rmL 5 0 0) [.ref r, .ref z.1] h (fun v h' => v = some (.int (absI (way t z.2.2.2.2))) ∧ (∃ q' L', RV G h' r d (pck t (nI (zN z))) B q' L' S (Z.eraseIdx i)) ∧ fr (Pr r) h h') noX := by
  have hzm := List.mem_of_getElem? hz
  have hil := (List.getElem?_eq_some_iff.mp hz).1
  obtain ⟨z64, zc, zt⟩ := hV.2.2.2.2.1.2.2 z hzm
  have hd12 := (hV.mem hw hzm).2
  obtain ⟨hpos, hitm⟩ := zi_pos hV hw hz
  have hZl : Z.length = (sI t).length := by rw [← hV.2.2.2.2.2, List.length_map]
  have hn40 := hw.n
  refine CT_of [some (.ref r), some (.ref z.1), none] (by decide +kernel) rfl (Nat.le_of_ble_eq_true rfl) (fun X hC hF hE => ?_)
  refine go_aload_n hC dX2_pick_0 rfl ?_
  refine go_aload_n hC dX2_pick_1 rfl ?_
  refine go_getN hC kX4 zc 2 q1233 dX2_pick_2 rfl (by decide) (Or.inl rfl) ?_
  refine go_callV0 hC (c_X2_turn hV hw z.2.2.2.2 hd12 hway) (lw_V q1439 q1440 q1441 q73 q1442) hV.1.1 rfl dX2_pick_5 1 rfl (by decide +kernel) rfl ⟨Nat.le_of_ble_eq_true rfl, Nat.le_of_ble_eq_true rfl⟩ (Nat.le_of_ble_eq_true rfl) ⟨rfl, rfl⟩ ?_
  rintro _ h1 ⟨rfl, ⟨q1, hV1⟩, hf1⟩
  obtain ⟨hR1, hq1, hL1, hS1, hI1, hZ1⟩ := hV1
  obtain ⟨a1, a2, a3⟩ := hI1
  have zc1 := (a3 z hzm).2.1
  have zt1 := (a3 z hzm).2.2
  have hget : (Z.map (fun z => z.1))[i]? = some z.1 := by rw [List.getElem?_map, hz]; rfl
  have hnum : ∀ (j : Nat) (y : Zt), j ≠ i → Z[j]? = some y → zN y ≠ zN z := fun j y hj hy e => by
    have e1 : ((sI t).map (fun x => x.1))[j]? = some (zN y) := by rw [List.getElem?_map, zi_it hV hy]; rfl
    have e2 : ((sI t).map (fun x => x.1))[i]? = some (zN z) := by rw [List.getElem?_map, zi_it hV hz]; rfl
    rw [e] at e1
    have hj9 := (List.getElem?_eq_some_iff.mp hy).1
    exact hj ((List.getElem?_inj (by rw [List.length_map]; omega) hw.2.2.2.2.1).mp (e1.trans e2.symm))
  have hfst : ∀ (j a : Nat), j < i → (Z.map (fun z => z.1))[j]? = some a → a ≠ z.1 := fun j a hj ha e => by
    rw [List.getElem?_map] at ha
    cases hy : Z[j]? with
    | none => rw [hy] at ha; cases ha
    | some y =>
      rw [hy] at ha
      have e1 : y.1 = a := Option.some.inj ha
      have yc := (a3 y (List.mem_of_getElem? hy)).2.1
      rw [e1, e, zc1] at yc
      have e2 : iL r (zN z) = iL r (zN y) := congrArg Prod.fst (Option.some.inj yc)
      have e3 : 16 + 2 * zN z = 16 + 2 * zN y := congrArg Prod.snd e2
      exact hnum j y (by omega) hy (by omega)
  have hel : ∀ a ∈ Z.map (fun z => z.1), ∃ (o2 : Ow) (vs : List Value), h1 a = some (o2, ob 2 vs) := fun a ha => by
    obtain ⟨y, hy, e⟩ := List.mem_map.mp ha
    rw [← e]
    exact ⟨_, _, (a3 y hy).2.1⟩
  obtain ⟨fl, hfl⟩ := a1.ob
  refine go_abs hC q1110 q1111 q90 q1112 ⟨Nat.le_of_ble_eq_true rfl, Nat.le_of_ble_eq_true rfl⟩ (Nat.le_of_ble_eq_true rfl) dX2_pick_8 ?_
  rw [abs_if]
  refine go_istore_n hC dX2_pick_11 (by decide) ?_
  refine go_aload_n hC dX2_pick_12 rfl ?_
  refine go_get hC kX2 hR1.1 0 q184 dX2_pick_13 rfl (by decide) (Or.inl rfl) ?_
  refine go_aload_n hC dX2_pick_16 rfl ?_
  refine go_callV0 hC (c_J2_remove a1 (ow_ne (by decide)) hget hfst hel zc1) (lw_V q1443 q1444 q1445 q76 q1446) hfl rfl dX2_pick_17 1 rfl (by decide +kernel) rfl ⟨Nat.le_of_ble_eq_true rfl, Nat.le_of_ble_eq_true rfl⟩ (Nat.le_of_ble_eq_true rfl) ⟨rfl, rfl⟩ ?_
  rintro _ h2 ⟨rfl, hA2, hf2⟩
  refine go_pop hC dX2_pick_20 rfl ?_
  have hR2 := hR1.fr hf2 (fun j hj => fo_i (by omega))
  have hM2 := a2.fr hf2 fo_9 fo_m
  have zc2 := hf2 _ _ _ zc1 (fo_i (by omega))
  have zt2 := hf2 _ _ _ zt1 fo_9
  have hin : zM Z (zN z) = some z.1 := by
    have hb : ∀ (j : Nat) (y : Zt), j < i → Z[j]? = some y → (zN y == zN z) = false := fun j y hj hy => beq_false_of_ne (hnum j y (by omega) hy)
    unfold zM
    rw [f_some (p := fun y => zN y == zN z) hz (by simp) hb]
    rfl
  obtain ⟨fm, hfm⟩ := hM2.ob
  refine go_aload_n hC dX2_pick_21 rfl ?_
  refine go_get hC kX2 hR2.1 1 q186 dX2_pick_22 rfl (by decide) (Or.inl rfl) ?_
  refine go_aload_n hC dX2_pick_25 rfl ?_
  refine go_getN hC kX4 zc2 0 q1226 dX2_pick_26 rfl (by decide) (Or.inl rfl) ?_
  refine go_callV0 hC (c_J4_remove hM2 zt2 z64 hin (by omega)) (lw_V q1453 q1454 q1455 q78 q1456) hfm rfl dX2_pick_29 1 rfl (by decide +kernel) rfl ⟨Nat.le_of_ble_eq_true rfl, Nat.le_of_ble_eq_true rfl⟩ (Nat.le_of_ble_eq_true rfl) ⟨rfl, rfl⟩ ?_
  rintro _ h3 ⟨⟨w9, rfl⟩, hM3, hf3⟩
  refine go_pop hC dX2_pick_32 rfl ?_
  have hR3 := hR2.fr hf3 (fun j hj => pm_i (by omega))
  have zc3 := hf3 _ _ _ zc2 (pm_i (by omega))
  have hfr3 : fr (Pr r) h h3 := ((hf1.mono (fun o w => by rw [w])).tr (hf2.mono (fun o w => by rcases w with w | w <;> rw [w]))).tr (hf3.mono (fun o w => w.1))
  have hMe : (fun n => if n = zN z then none else zM Z n) = zM (Z.eraseIdx i) := by
    have e1 : Z.eraseIdx i = Z.take i ++ Z.drop (i + 1) := List.eraseIdx_eq_take_drop_succ Z i
    have e2 : Z = Z.take i ++ ([z] ++ Z.drop (i + 1)) := by
      obtain ⟨hl, e⟩ := List.getElem?_eq_some_iff.mp hz
      conv => lhs; rw [← List.take_append_drop i Z]
      rw [List.drop_eq_getElem_cons hl, e]
      rfl
    funext n
    by_cases en : n = zN z
    · subst en
      rw [if_pos rfl]
      unfold zM
      rw [List.find?_eq_none.mpr (fun y hy => ?_)]
      · rfl
      · obtain ⟨j, hj⟩ := List.getElem?_of_mem hy
        rw [List.getElem?_eraseIdx] at hj
        split at hj
        · simpa using hnum j y (by omega) hj
        · simpa using hnum (j + 1) y (by omega) hj
    · rw [if_neg en]
      unfold zM
      have : Z.find? (fun y => zN y == n) = (Z.eraseIdx i).find? (fun y => zN y == n) := by
        rw [e1, List.find?_append]
        conv => lhs; rw [e2]
        rw [List.find?_append, List.find?_append, List.find?_cons_of_neg (by simp; exact fun w => en w.symm), List.find?_nil, Option.none_or]
      rw [this]
  rw [hMe] at hM3
  have hI3 : LI G h3 r d B (Z.eraseIdx i) := by
    refine ⟨?_, ?_, fun y hy => ?_⟩
    · have e : (Z.map (fun z => z.1)).eraseIdx i = (Z.eraseIdx i).map (fun z => z.1) := erase_map _ _ _
      rw [← e]
      exact hA2.fr hf3 (pm_i (by omega)) (pm_i (by omega))
    · have e : (Z.eraseIdx i).length = Z.length - 1 := by rw [List.length_eraseIdx, if_pos hil]
      rw [e]; exact hM3
    · have hy' := List.mem_of_mem_eraseIdx hy
      exact ⟨(a3 y hy').1, hf3 _ _ _ (hf2 _ _ _ (a3 y hy').2.1 (fo_i (by omega))) (pm_i (by omega)), hf3 _ _ _ (hf2 _ _ _ (a3 y hy').2.2 fo_9) pm_9⟩
  have hR4 := hR3.ld (upd L z.2.2.2.2 (L z.2.2.2.2 - z.2.2.2.1))
  have hI4 := hI3.up (e' := ia G 12 (upd L z.2.2.2.2 (L z.2.2.2.2 - z.2.2.2.1))) hR3.2.1 (by omega)
  have zc4 : hu h3 (B 2) (r, 3) (ia G 12 (upd L z.2.2.2.2 (L z.2.2.2.2 - z.2.2.2.1))) z.1 = some (iL r (zN z), itc z) := hu_k zc3 hR3.2.1 (ow_ne (by omega))
  refine go_aload_n hC dX2_pick_33 rfl ?_
  refine go_get hC kX2 hR3.1 2 q187 dX2_pick_34 rfl (by decide) (Or.inl rfl) ?_
  refine go_aload_n hC dX2_pick_37 rfl ?_
  refine go_getN hC kX4 zc3 2 q1233 dX2_pick_38 rfl (by decide) (Or.inl rfl) ?_
  refine go_dup2 hC dX2_pick_41 rfl rfl ?_
  refine go_iald hC z.2.2.2.2 hR3.2.1 dX2_pick_42 (by first | rfl | (simp only [nI_add, pk_mul, nI_1, Int32.add_zero]; done) | (simp only [nI_add, pk_mul, nI_1, Int32.add_zero]; exact congrArg nI (by omega))) (by omega) (by omega) ?_
  refine go_aload_n hC dX2_pick_43 rfl ?_
  refine go_getN hC kX4 zc3 1 q1229 dX2_pick_44 rfl (by decide) (Or.inl rfl) ?_
  refine go_isub hC dX2_pick_47 ?_
  refine go_iast hC z.2.2.2.2 hR3.2.1 dX2_pick_48 (by first | rfl | (simp only [nI_add, pk_mul, nI_1, Int32.add_zero]; done) | (simp only [nI_add, pk_mul, nI_1, Int32.add_zero]; exact congrArg nI (by omega))) (by omega) (by omega) ?_
  refine go_aload_n hC dX2_pick_49 rfl ?_
  refine go_dup hC dX2_pick_50 rfl ?_
  refine go_get hC kX2 hR4.1 10 q205 dX2_pick_51 rfl (by decide) (Or.inl rfl) ?_
  refine go_iconst hC (1) dX2_pick_54 (by decide) ?_
  refine go_iadd hC dX2_pick_55 ?_
  refine go_put hC kX2 hR4.1 10 q205 dX2_pick_56 (by decide) (Nat.le_of_ble_eq_true rfl) (Or.inl rfl) rfl rfl rfl ?_
  refine go_iload_n hC dX2_pick_59 rfl ?_
  refine go_iret hC hF dX2_pick_60 rfl rfl ?_
  have hpk : pck t (nI (zN z)) = (fun k => if k = 7 then sN t 7 + 1 else sN (trn t z.2.2.2.2) k, sJ t, z.2.2.2.2, sC t, (sI t).eraseIdx i) := by
    unfold pck
    rw [hitm]
    show (_, _, _, _, List.eraseP _ _) = _
    rw [pos_erase hpos]
  rw [hpk]
  obtain ⟨k1, k2, k3, k4⟩ := hq1
  refine ⟨rfl, ⟨fun k => if k = 3 then q1 3 + 1 else q1 k, _, hR4.ob (w' := z.2.2.2.2) (nb' := sC t) (q' := fun k => if k = 3 then q1 3 + 1 else q1 k), ⟨k1, k2, k3, ?_⟩, fun o ho => ?_, fun k hk => ?_, hI4.up hR4.1 (by omega), ?_⟩, (hfr3.up hR3.2.1 rfl).up hR4.1 rfl⟩
  · show q1 3 + 1 = sN t 7 + 1
    rw [k4]; rfl
  · show upd L z.2.2.2.2 (L z.2.2.2.2 - z.2.2.2.1) o = ld ((sI t).eraseIdx i) o
    rw [ld_erase (zi_it hV hz)]
    by_cases e : o = z.2.2.2.2
    · rw [e, pk_us, if_pos rfl, hL1 _ (by omega)]
      rfl
    · rw [pk_un e, if_neg (fun w => e w.symm), hL1 o ho]
      show ld (sI t) o = ld (sI t) o - 0
      grind
  · show S k = if k = 7 then _ else sN (trn t z.2.2.2.2) k
    rw [if_neg (by omega)]; exact hS1 k hk
  · have e : (Z.eraseIdx i).map (fun z => z.2.2) = (Z.map (fun z => z.2.2)).eraseIdx i := (erase_map _ _ _).symm
    rw [e, hZ1]; rfl
theorem c_X2_init (hr : h r = some ((r, 0), ob 1 nfX2)) (d : Nat) : CT G yX2_init cX2_init 1 none (rmL 4 5 38) [.ref r] h (fun v h' => v = none ∧ RG G h' r d st0 ∧ fr (Pr r) h h') noX := by
  refine CT_ofI [some (.ref r)] (by decide +kernel) rfl (Nat.le_of_ble_eq_true rfl) (fun X hC hF hE hI => ?_)
  show Go X G h 5 38 0 _ _
  refine go_aload_n hC dX2_init_0 rfl ?_
  refine go_objI hC q125 q118 q119 (Nat.le_of_ble_eq_true rfl) ⟨Nat.le_of_ble_eq_true rfl, Nat.le_of_ble_eq_true rfl⟩ dX2_init_1 ?_
  refine go_aload_n hC dX2_init_4 rfl ?_
  refine go_new hC kJ2 nfJ2 (fun _ => (r, 1)) q126 q127 q76 dfJ2 (by omega) (by omega) dX2_init_5 (fun l ln lb => ?_)
  refine go_dup hC dX2_init_8 rfl ?_
  refine go_callI0 hC (c_J2_init (o2 := (r, 7)) hu_eq) q130 q76 q128 q129 rfl dX2_init_9 0 rfl (by decide +kernel) rfl ⟨Nat.le_of_ble_eq_true rfl, Nat.le_of_ble_eq_true rfl⟩ (Nat.le_of_ble_eq_true rfl) ⟨rfl, rfl⟩ ?_
  rintro _ h1 ⟨rfl, hA1, hf1⟩
  refine go_putF hC hI kX2 (hf1 _ _ _ (hu_n ln hr) (fo_i (by omega))) 0 q184 dX2_init_12 (by decide) (Nat.le_of_ble_eq_true rfl) (Or.inl rfl) rfl rfl rfl rfl ?_
  have hr1 := hf1 _ _ _ (hu_n (o2 := (r, 1)) (e' := ob 7 nfJ2) ln hr) (fo_i (by omega))
  have hA2 : AL G (hu h1 r (r, 0) (ob 1 (nfX2.set 0 (.ref l)))) (r, 1) (r, 7) l [] := hA1.fr (P := fun o => o = (r, 0)) (fr.rf.up hr1 rfl) (ow_ne (by decide)) (ow_ne (by decide))
  have hr2 : hu h1 r (r, 0) (ob 1 (nfX2.set 0 (.ref l))) r = some ((r, 0), ob 1 [.ref l, .null, .null, .null, .null, .int 0, .int 0, .int 0, .int 0, .int 0, .int 0]) := by rw [hu_eq]; rfl
  have hf2 : fr (Pr r) h (hu h1 r (r, 0) (ob 1 (nfX2.set 0 (.ref l)))) := ((fr.rf.nw ln).tr (hf1.mono (fun o w => by rcases w with w | w <;> rw [w]))).up hr1 rfl
  generalize hu h1 r (r, 0) (ob 1 (nfX2.set 0 (.ref l))) = h2 at hA2 hr2 hf2
  refine go_aload_n hC dX2_init_15 rfl ?_
  refine go_new hC kJ4 nfJ4 (fun _ => (r, 2)) q152 q153 q78 dfJ4 (by omega) (by omega) dX2_init_16 (fun mm mmn mmb => ?_)
  refine go_dup hC dX2_init_19 rfl ?_
  refine go_callI0 hC (c_J4_init (d := d) hu_eq zM_nil) q156 q78 q154 q155 rfl dX2_init_20 0 rfl (by decide +kernel) rfl ⟨Nat.le_of_ble_eq_true rfl, Nat.le_of_ble_eq_true rfl⟩ (Nat.le_of_ble_eq_true rfl) ⟨rfl, rfl⟩ ?_
  rintro _ h3 ⟨rfl, hM3, hf3⟩
  have hr3 := hf3 _ _ _ (hu_n (o2 := (r, 2)) (e' := ob 8 nfJ4) mmn hr2) (pm_i (by omega))
  have hA3 : AL G h3 (r, 1) (r, 7) l [] := (hA2.fr (P := Pm r) (fr.rf.nw mmn) (pm_i (by omega)) (pm_i (by omega))).fr hf3 (pm_i (by omega)) (pm_i (by omega))
  have hg3 : fr (Pr r) h h3 := (hf2.nw mmn).tr (hf3.mono (fun o w => w.1))
  have n0 : ∀ i, i ≠ 0 → ¬ (fun o : Ow => o = (r, 0)) (r, i) := fun i hi w => by have := congrArg Prod.snd w; dsimp at this; omega
  have n9 : ¬ (fun o : Ow => o = (r, 0)) (d, 9) := fun w => by have := congrArg Prod.snd w; dsimp at this; omega
  have nm : ∀ o, Pm r o → ¬ (fun o : Ow => o = (r, 0)) o := fun o ho w => by
    rw [w] at ho; exact pm_i (by omega) ho
  have m0 : ∀ o : Ow, o = (r, 0) → Pr r o := fun o w => by rw [w]
  refine go_putF hC hI kX2 hr3 1 q186 dX2_init_23 (by decide) (Nat.le_of_ble_eq_true rfl) (Or.inl rfl) rfl rfl rfl rfl ?_
  refine go_aload_n hC dX2_init_26 rfl ?_
  refine go_bipush hC (nI 12) dX2_init_27 (by decide) ?_
  have hz4 : fr (fun o => o = (r, 0)) h3 (hu h3 r (r, 0) (ob 1 ([.ref l, .null, .null, .null, .null, .int 0, .int 0, .int 0, .int 0, .int 0, .int 0].set 1 (.ref mm)))) := fr.rf.up hr3 rfl
  have hr4 : hu h3 r (r, 0) (ob 1 ([.ref l, .null, .null, .null, .null, .int 0, .int 0, .int 0, .int 0, .int 0, .int 0].set 1 (.ref mm))) r = some ((r, 0), ob 1 [.ref l, .ref mm, .null, .null, .null, .int 0, .int 0, .int 0, .int 0, .int 0, .int 0]) := by rw [hu_eq]; rfl
  have hA4 := hA3.fr hz4 (n0 _ (by omega)) (n0 _ (by omega))
  have hM4 := hM3.fr hz4 n9 nm
  have hg4 := hg3.tr (hz4.mono m0)
  generalize hu h3 r (r, 0) (ob 1 ([.ref l, .null, .null, .null, .null, .int 0, .int 0, .int 0, .int 0, .int 0, .int 0].set 1 (.ref mm))) = h4 at hr4 hA4 hM4 hg4
  refine go_newa hC (atype := .int) 0 12 (fun _ => (r, 3)) (a0 := (12, .inl (fun _ => 0))) q230 rfl rfl (fun _ => rfl) rfl (by omega) (by decide) (by omega) (by omega) dX2_init_29 (fun al aln alb => ?_)
  refine go_putF hC hI kX2 (hu_n aln hr4) 2 q187 dX2_init_31 (by decide) (Nat.le_of_ble_eq_true rfl) (Or.inl rfl) rfl rfl rfl rfl ?_
  have hz5 : fr (fun o => o = (r, 0)) h4 (hu (hu h4 al (r, 3) (ia G 12 (fun _ => 0))) r (r, 0) (ob 1 ([.ref l, .ref mm, .null, .null, .null, .int 0, .int 0, .int 0, .int 0, .int 0, .int 0].set 2 (.ref al)))) := (fr.rf.nw aln).up (hu_n aln hr4) rfl
  have hl5 : hu (hu h4 al (r, 3) (ia G 12 (fun _ => 0))) r (r, 0) (ob 1 ([.ref l, .ref mm, .null, .null, .null, .int 0, .int 0, .int 0, .int 0, .int 0, .int 0].set 2 (.ref al))) al = some ((r, 3), ia G 12 (fun _ => 0)) := hu_k hu_eq (hu_n aln hr4) (ow_ne (by decide))
  have hr5 : hu (hu h4 al (r, 3) (ia G 12 (fun _ => 0))) r (r, 0) (ob 1 ([.ref l, .ref mm, .null, .null, .null, .int 0, .int 0, .int 0, .int 0, .int 0, .int 0].set 2 (.ref al))) r = some ((r, 0), ob 1 [.ref l, .ref mm, .ref al, .null, .null, .int 0, .int 0, .int 0, .int 0, .int 0, .int 0]) := by rw [hu_eq]; rfl
  have hA5 := hA4.fr hz5 (n0 _ (by omega)) (n0 _ (by omega))
  have hM5 := hM4.fr hz5 n9 nm
  have hg5 := hg4.tr (hz5.mono m0)
  generalize hu (hu h4 al (r, 3) (ia G 12 (fun _ => 0))) r (r, 0) (ob 1 ([.ref l, .ref mm, .null, .null, .null, .int 0, .int 0, .int 0, .int 0, .int 0, .int 0].set 2 (.ref al))) = h5 at hr5 hA5 hM5 hg5 hl5
  refine go_aload_n hC dX2_init_34 rfl ?_
  refine go_bipush hC (nI 12) dX2_init_35 (by decide) ?_
  refine go_newa hC (atype := .boolean) 1 12 (fun _ => (r, 4)) (a0 := (12, .inl (fun _ => 0))) q231 rfl rfl (fun _ => rfl) rfl (by omega) (by decide) (by omega) (by omega) dX2_init_37 (fun aj ajn ajb => ?_)
  refine go_putF hC hI kX2 (hu_n ajn hr5) 3 q190 dX2_init_39 (by decide) (Nat.le_of_ble_eq_true rfl) (Or.inl rfl) rfl rfl rfl rfl ?_
  have hz6 : fr (fun o => o = (r, 0)) h5 (hu (hu h5 aj (r, 4) (za G 12 (fun _ => 0))) r (r, 0) (ob 1 ([.ref l, .ref mm, .ref al, .null, .null, .int 0, .int 0, .int 0, .int 0, .int 0, .int 0].set 3 (.ref aj)))) := (fr.rf.nw ajn).up (hu_n ajn hr5) rfl
  have hj6 : hu (hu h5 aj (r, 4) (za G 12 (fun _ => 0))) r (r, 0) (ob 1 ([.ref l, .ref mm, .ref al, .null, .null, .int 0, .int 0, .int 0, .int 0, .int 0, .int 0].set 3 (.ref aj))) aj = some ((r, 4), za G 12 (fun _ => 0)) := hu_k hu_eq (hu_n ajn hr5) (ow_ne (by decide))
  have hr6 : hu (hu h5 aj (r, 4) (za G 12 (fun _ => 0))) r (r, 0) (ob 1 ([.ref l, .ref mm, .ref al, .null, .null, .int 0, .int 0, .int 0, .int 0, .int 0, .int 0].set 3 (.ref aj))) r = some ((r, 0), ob 1 [.ref l, .ref mm, .ref al, .ref aj, .null, .int 0, .int 0, .int 0, .int 0, .int 0, .int 0]) := by rw [hu_eq]; rfl
  have hA6 := hA5.fr hz6 (n0 _ (by omega)) (n0 _ (by omega))
  have hM6 := hM5.fr hz6 n9 nm
  have hl6 := hz6 _ _ _ hl5 (n0 _ (by omega))
  have hg6 := hg5.tr (hz6.mono m0)
  generalize hu (hu h5 aj (r, 4) (za G 12 (fun _ => 0))) r (r, 0) (ob 1 ([.ref l, .ref mm, .ref al, .null, .null, .int 0, .int 0, .int 0, .int 0, .int 0, .int 0].set 3 (.ref aj))) = h6 at hr6 hA6 hM6 hg6 hl6 hj6
  refine go_aload_n hC dX2_init_42 rfl ?_
  refine go_iconst hC (nI 3) dX2_init_43 (by decide) ?_
  refine go_newa hC (atype := .int) 0 3 (fun _ => (r, 5)) (a0 := (3, .inl (fun _ => 0))) q230 rfl rfl (fun _ => rfl) rfl (by omega) (by decide) (by omega) (by omega) dX2_init_44 (fun as asn asb => ?_)
  refine go_dup hC dX2_init_46 rfl ?_
  refine go_iconst hC (0) dX2_init_47 (by decide) ?_
  refine go_bipush hC (nI 60) dX2_init_48 (by decide) ?_
  refine go_iast hC 0 hu_eq dX2_init_50 (by first | rfl | (simp only [nI_add, pk_mul, nI_1, Int32.add_zero]; done) | (simp only [nI_add, pk_mul, nI_1, Int32.add_zero]; exact congrArg nI (by omega))) (by omega) (by omega) ?_
  rw [hu_hu]
  refine go_dup hC dX2_init_51 rfl ?_
  refine go_iconst hC (1) dX2_init_52 (by decide) ?_
  refine go_bipush hC (nI 50) dX2_init_53 (by decide) ?_
  refine go_iast hC 1 hu_eq dX2_init_55 (by first | rfl | (simp only [nI_add, pk_mul, nI_1, Int32.add_zero]; done) | (simp only [nI_add, pk_mul, nI_1, Int32.add_zero]; exact congrArg nI (by omega))) (by omega) (by omega) ?_
  rw [hu_hu]
  refine go_dup hC dX2_init_56 rfl ?_
  refine go_iconst hC (nI 2) dX2_init_57 (by decide) ?_
  refine go_iconst hC (0) dX2_init_58 (by decide) ?_
  refine go_iast hC 2 hu_eq dX2_init_59 (by first | rfl | (simp only [nI_add, pk_mul, nI_1, Int32.add_zero]; done) | (simp only [nI_add, pk_mul, nI_1, Int32.add_zero]; exact congrArg nI (by omega))) (by omega) (by omega) ?_
  rw [hu_hu]
  refine go_putF hC hI kX2 (hu_n asn hr6) 4 q193 dX2_init_60 (by decide) (Nat.le_of_ble_eq_true rfl) (Or.inl rfl) rfl rfl rfl rfl ?_
  refine go_vret hC hF dX2_init_63 rfl ?_
  have hz7 : ∀ a e', fr (fun o => o = (r, 0)) h6 (hu (hu h6 as (r, 5) a) r (r, 0) e') := fun a e' => (fr.rf.nw asn).up (hu_n asn hr6) rfl
  refine ⟨rfl, ⟨fun k => if k = 0 then l else if k = 1 then mm else if k = 2 then al else if k = 3 then aj else as, fun _ => 0, fun _ => 0, _, [], ⟨hu_eq, (hz7 _ _) _ _ _ hl6 (n0 _ (by omega)), ⟨fun _ => 0, (hz7 _ _) _ _ _ hj6 (n0 _ (by omega)), fun _ _ => rfl⟩, hu_k hu_eq (hu_n asn hr6) (ow_ne (by decide))⟩, ⟨rfl, rfl, rfl, rfl⟩, fun _ _ => rfl, fun k hk => ?_, ⟨hA6.fr (hz7 _ _) (n0 _ (by omega)) (n0 _ (by omega)), hM6.fr (hz7 _ _) n9 nm, fun z hz => by cases hz⟩, rfl⟩, hg6.tr ((hz7 _ _).mono m0)⟩
  rcases (show k = 0 ∨ k = 1 ∨ k = 2 by omega) with e | e | e <;> subst e <;> rfl
end PK
