/-! java.util.HashMap: put -/
set_option maxRecDepth 100000
theorem nodup_lt : ∀ (b : Nat) (l : List Nat), l.Nodup → (∀ x ∈ l, x < b) → l.length ≤ b
  | 0, l, _, h => by
    cases l with
    | nil => exact Nat.le_refl _
    | cons x r => exact absurd (h x List.mem_cons_self) (Nat.not_lt_zero _)
  | b + 1, l, hn, h => by
    by_cases q : b ∈ l
    · have h1 := nodup_lt b (l.erase b) (hn.erase b) (fun x hx => by
        have h2 := (hn.mem_erase_iff).mp hx
        have := h x h2.2
        have := h2.1
        omega)
      rw [List.length_erase_of_mem q] at h1
      omega
    · have h1 := nodup_lt b l hn (fun x hx => by
        have := h x hx
        rcases Nat.lt_or_ge x b with z | z
        · exact z
        · have : x = b := by omega
          rw [this] at hx; exact absurd hx q)
      omega
theorem bk_len {k i : Nat} (hk : 4 ≤ k) {l : List Nd} (h1 : ∀ x ∈ l, nN x < 64) (h2 : ∀ x ∈ l, hsh (nN x) % 2 ^ k = i) (h3 : (l.map nN).Nodup) : l.length ≤ 4 := by
  have hd : ∀ x ∈ l, (31 * nN x + 17) % 16 = i % 16 := fun x hx => by
    rw [← h2 x hx]
    exact (Nat.mod_mod_of_dvd _ (show 16 ∣ 2 ^ k from ⟨2 ^ (k - 4), by rw [← show 2 ^ 4 * 2 ^ (k - 4) = 2 ^ k by rw [← Nat.pow_add]; congr 1; omega]⟩)).symm
  have hm : ∀ x ∈ l, ∀ y ∈ l, nN x / 16 = nN y / 16 → nN x = nN y := fun x hx y hy e => by
    have a1 := hd x hx
    have a2 := hd y hy
    have a3 := h1 x hx
    have a4 := h1 y hy
    omega
  have key : ∀ (l : List Nd), (∀ x ∈ l, ∀ y ∈ l, nN x / 16 = nN y / 16 → nN x = nN y) → (l.map nN).Nodup → (l.map (fun x => nN x / 16)).Nodup := by
    intro l
    induction l with
    | nil => intro _ _; exact List.nodup_nil
    | cons x r ih =>
      intro hm hn
      rw [List.map_cons, List.nodup_cons] at hn ⊢
      refine ⟨fun hx => ?_, ih (fun a ha b hb => hm a (List.mem_cons_of_mem _ ha) b (List.mem_cons_of_mem _ hb)) hn.2⟩
      obtain ⟨y, hy, e⟩ := List.mem_map.mp hx
      exact hn.1 (List.mem_map.mpr ⟨y, hy, hm y (List.mem_cons_of_mem _ hy) x List.mem_cons_self e⟩)
  have := nodup_lt 4 _ (key l hm h3) (fun q hq => by
    obtain ⟨x, hx, e⟩ := List.mem_map.mp hq
    have := h1 x hx
    omega)
  rwa [List.length_map] at this
section PT
variable {G : GT} {h : PH} {r d mp t it a n sz : Nat} {o : Ow} {M : Nat → Option Nat} {k : Nat} {mc : Int32} {lf : UInt32}
theorem c_J4_newNode {fs : List Value} (hm : h mp = some (o, ob 8 fs)) (ol : Ow) : CT G yJ4_newNode cJ4_newNode 5 (some (.object "java/util/HashMap$Node")) (rmL 2 1 4) [.ref mp, .int (nI (hsh n)), .ref t, .ref it, .null] h (fun v h' => ∃ q, v = some (.ref q) ∧ h q = none ∧ hu h q ol (ndc (q, t, it, n) none) = h') noX := by
  refine CT_of [some (.ref mp), some (.int (nI (hsh n))), some (.ref t), some (.ref it), some .null] (by decide +kernel) rfl (Nat.le_of_ble_eq_true rfl) (fun X hC hF hE => ?_)
  show Go X G h 1 4 0 _ _
  refine go_new hC kJ23 nfJ23 (fun _ => ol) q1291 q1306 q101 dfJ23 (by omega) (by omega) dJ4_newNode_0 (fun q qn qb => ?_)
  refine go_dup hC dJ4_newNode_3 rfl ?_
  refine go_iload_n hC dJ4_newNode_4 rfl ?_
  refine go_aload_n hC dJ4_newNode_5 rfl ?_
  refine go_aload_n hC dJ4_newNode_6 rfl ?_
  refine go_aloadN hC dJ4_newNode_7 rfl ?_
  refine go_callI0 hC (c_J23_init hu_eq (q, t, it, n)) q1309 q101 q1307 q1308 rfl dJ4_newNode_9 4 rfl (by decide +kernel) rfl ⟨Nat.le_of_ble_eq_true rfl, Nat.le_of_ble_eq_true rfl⟩ (Nat.le_of_ble_eq_true rfl) ⟨rfl, rfl⟩ ?_
  rintro _ _ ⟨rfl, rfl⟩
  refine go_aret hC hF dJ4_newNode_12 rfl (Or.inl ⟨_, rfl⟩) (Or.inr ⟨_, rfl⟩) ?_
  exact ⟨q, rfl, qn, by rw [hu_hu]⟩
theorem c_J4_ani (x : Int32) : CT G yJ4_afterNodeInsertion cJ4_afterNodeInsertion 2 none (rmL 1 0 0) [.ref mp, .int x] h (fun v h' => v = none ∧ h = h') noX := by
  refine CT_of [some (.ref mp), some (.int x)] (by decide +kernel) rfl (Nat.le_of_ble_eq_true rfl) (fun X hC hF hE => ?_)
  refine go_vret hC hF dJ4_afterNodeInsertion_0 rfl ?_
  exact ⟨rfl, rfl⟩
theorem c_J4_putVal (hM : HM G h r d mp sz M) (ht : h t = some ((d, 9), tgc n)) (hn : n < 64) (hab : M n = none) (hsz : sz ≤ 47) : CT G yJ4_putVal cJ4_putVal 13 (some (.object "java/lang/Object")) (rmL 3 2 68) [.ref mp, .int (nI (hsh n)), .ref t, .ref it, .int 0, .int 1] h (fun v h' => v = some .null ∧ HM G h' r d mp (sz + 1) (fun q => if q = n then some it else M q) ∧ fr (Pm r) h h') noX := by
  obtain ⟨mc, lf, hM⟩ := hM
  refine CT_of [some (.ref mp), some (.int (nI (hsh n))), some (.ref t), some (.ref it), some (.int 0), some (.int 1), none, none, none, none, none, none, none] (by decide +kernel) rfl (Nat.le_of_ble_eq_true rfl) (fun X hC hF hE => ?_)
  show Go X G h 2 68 0 _ _
  -- the end, from 259 on
  have fin : ∀ (h1 : PH) (kk nn k T : Nat) (f : Nat → Option Nat) (bk : Nat → List Nd) (z6 z7 z8 z9 z10 z11 z12 : Option Value), (4 ≤ k ∧ k ≤ 6) → h1 mp = some ((r, 2), ob 8 [.null, .null, .ref T, .null, .int (nI sz), .int mc, .int (nI (12 * 2 ^ (k - 4))), .float lf]) → h1 T = some ((r, 8), oa G 5 (2 ^ k) f) → sz ≤ 12 * 2 ^ (k - 4) → (∀ i, i < 2 ^ k → chn h1 r d (bk i) (f i) ∧ (∀ x ∈ bk i, hsh (nN x) % 2 ^ k = i) ∧ ((bk i).map nN).Nodup) → (∀ m, m < 64 → (if m = n then some it else M m) = ((bk (hsh m % 2 ^ k)).find? (fun x => nN x == m)).map nV) → fr (Pm r) h h1 → (sz = 12 * 2 ^ (k - 4) → 1 ≤ kk ∧ 64 ≤ nn) → Go X G h1 kk nn 259 [some (.ref mp), some (.int (nI (hsh n))), some (.ref t), some (.ref it), some (.int 0), some (.int 1), z6, z7, z8, z9, z10, z11, z12] [] := by
    intro h1 kk nn k T f bk z6 z7 z8 z9 z10 z11 z12 hk g1 g2 g3 g4 g5 hf hbud
    have h12 : 12 * 2 ^ (k - 4) ≤ 48 := by have : 2 ^ (k - 4) ≤ 2 ^ 2 := Nat.pow_le_pow_right (by omega) (by omega); omega
    refine go_aload_n hC dJ4_putVal_259 rfl ?_
    refine go_dup hC dJ4_putVal_260 rfl ?_
    refine go_get hC kJ4 g1 5 q164 dJ4_putVal_261 rfl (by decide) (Or.inl rfl) ?_
    refine go_iconst hC (1) dJ4_putVal_264 (by decide) ?_
    refine go_iadd hC dJ4_putVal_265 ?_
    refine go_put hC kJ4 g1 5 q164 dJ4_putVal_266 (by decide) (Nat.le_of_ble_eq_true rfl) (Or.inl rfl) rfl rfl rfl ?_
    refine go_aload_n hC dJ4_putVal_269 rfl ?_
    refine go_dup hC dJ4_putVal_270 rfl ?_
    refine go_get hC kJ4 hu_eq 4 q163 dJ4_putVal_271 rfl (by decide) (Or.inl rfl) ?_
    refine go_iconst hC (1) dJ4_putVal_274 (by decide) ?_
    refine go_iadd hC dJ4_putVal_275 ?_
    rw [nI_1]
    refine go_dup_x1 hC dJ4_putVal_276 rfl rfl ?_
    refine go_put hC kJ4 hu_eq 4 q163 dJ4_putVal_277 (by decide) (Nat.le_of_ble_eq_true rfl) (Or.inl rfl) rfl rfl rfl ?_
    rw [hu_hu]
    refine go_aload_n hC dJ4_putVal_280 rfl ?_
    refine go_get hC kJ4 hu_eq 6 q165 dJ4_putVal_281 rfl (by decide) (Or.inl rfl) ?_
    generalize hh : hu h1 mp (r, 2) _ = h2
    have g1' : h2 mp = some ((r, 2), ob 8 [.null, .null, .ref T, .null, .int (nI (sz + 1)), .int (mc + 1), .int (nI (12 * 2 ^ (k - 4))), .float lf]) := by rw [← hh, hu_eq]; rfl
    have g2' : h2 T = some ((r, 8), oa G 5 (2 ^ k) f) := by rw [← hh]; exact hu_k g2 g1 (ow_ne (by decide))
    have g4' : ∀ i, i < 2 ^ k → chn h2 r d (bk i) (f i) ∧ (∀ x ∈ bk i, hsh (nN x) % 2 ^ k = i) ∧ ((bk i).map nN).Nodup := fun i hi => ⟨by rw [← hh]; exact seg_up g1 (ow_nd (by decide)) (fun x _ => ow_nd (by omega)) (g4 i hi).1, (g4 i hi).2⟩
    have hf2 : fr (Pm r) h h2 := by rw [← hh]; exact hf.up g1 ⟨rfl, Or.inl rfl⟩
    refine go_N_le hC 292 dJ4_putVal_284 (by decide) rfl rfl (by omega) (by omega) (fun c284 => ?_) (fun c284 => ?_)
    · refine go_aload_n hC dJ4_putVal_292 rfl ?_
      refine go_iload hC dJ4_putVal_293 rfl ?_
      refine go_callV0 hC (c_J4_ani 1) (lw_V q1412 q1413 q1414 q78 q1415) g1' rfl dJ4_putVal_295 1 rfl (by decide +kernel) rfl ⟨Nat.le_of_ble_eq_true rfl, Nat.le_of_ble_eq_true rfl⟩ (Nat.le_of_ble_eq_true rfl) ⟨rfl, rfl⟩ ?_
      rintro _ _ ⟨rfl, rfl⟩
      refine go_null hC dJ4_putVal_298 ?_
      refine go_aret hC hF dJ4_putVal_299 rfl (Or.inl ⟨_, rfl⟩) (Or.inl rfl) ?_
      exact ⟨rfl, ⟨mc + 1, lf, Or.inr ⟨k, T, f, bk, hk, g1', g2', c284, g4', g5⟩⟩, hf2⟩
    · have e : sz = 12 * 2 ^ (k - 4) := by omega
      have hk5 : k ≤ 5 := by
        rcases Nat.lt_or_ge k 6 with z | z
        · omega
        · have : k = 6 := by omega
          subst this
          have : (12 * 2 ^ (6 - 4) : Nat) = 48 := by decide
          omega
      have h13 : sz + 1 ≤ 12 * 2 ^ (k + 1 - 4) := by
        have h14 : 2 ^ (k + 1 - 4) = 2 * 2 ^ (k - 4) := by rw [show k + 1 - 4 = (k - 4) + 1 by omega, Nat.pow_succ, Nat.mul_comm]
        have h15 : 0 < 2 ^ (k - 4) := Nat.two_pow_pos _
        omega
      refine go_aload_n hC dJ4_putVal_287 rfl ?_
      refine go_callV hC (c_J4_resize ⟨hk.1, hk5⟩ g1' g2' h13 g4' g5) (lw_V q1284 q1285 q1286 q78 q1287) g1' rfl dJ4_putVal_288 0 rfl (by decide +kernel) rfl ⟨Nat.le_of_ble_eq_true rfl, Nat.le_of_ble_eq_true rfl⟩ (Nat.le_of_ble_eq_true rfl) (hbud e).1 (hbud e).2 ?_
      rintro _ h3 ⟨T3, rfl, hM3, hf3⟩
      obtain ⟨mc3, lf3, hM3'⟩ := id hM3
      have hmp3 : ∃ fs, h3 mp = some ((r, 2), ob 8 fs) := by
        rcases hM3' with w | ⟨k3, T3', f3, bk3, w⟩
        · exact ⟨_, w.1⟩
        · exact ⟨_, w.2.1⟩
      obtain ⟨fs3, hmp3⟩ := hmp3
      refine go_pop hC dJ4_putVal_291 rfl ?_
      refine go_aload_n hC dJ4_putVal_292 rfl ?_
      refine go_iload hC dJ4_putVal_293 rfl ?_
      refine go_callV0 hC (c_J4_ani 1) (lw_V q1412 q1413 q1414 q78 q1415) hmp3 rfl dJ4_putVal_295 1 rfl (by decide +kernel) rfl ⟨Nat.le_of_ble_eq_true rfl, Nat.le_of_ble_eq_true rfl⟩ (Nat.le_of_ble_eq_true rfl) ⟨rfl, rfl⟩ ?_
      rintro _ _ ⟨rfl, rfl⟩
      refine go_null hC dJ4_putVal_298 ?_
      refine go_aret hC hF dJ4_putVal_299 rfl (Or.inl ⟨_, rfl⟩) (Or.inl rfl) ?_
      exact ⟨rfl, hM3, hf2.tr hf3⟩
  -- from 29 on: the table is there
  have from29 : ∀ (h1 : PH) (kk nn k T : Nat) (f : Nat → Option Nat) (bk : Nat → List Nd), HMi G h1 r d mp k T f bk mc lf sz M → fr (Pm r) h h1 → 1 ≤ kk → 4 ≤ nn → (sz = 12 * 2 ^ (k - 4) → 2 ≤ kk ∧ 68 ≤ nn) → Go X G h1 kk nn 29 [some (.ref mp), some (.int (nI (hsh n))), some (.ref t), some (.ref it), some (.int 0), some (.int 1), some (.ref T), none, some (.int (nI (2 ^ k))), none, none, none, none] [] := by
    intro h1 kk nn k T f bk hM1 hf1 hk1 hn4 hbud
    obtain ⟨hk, g1, g2, g3, g4, g5⟩ := hM1
    have ht1 : h1 t = some ((d, 9), tgc n) := hf1 _ _ _ ht (fun z => by have := z.2; omega)
    have hp : 2 ^ k ≤ 2 ^ 6 := Nat.pow_le_pow_right (by omega) hk.2
    have hp0 : 0 < 2 ^ k := Nat.two_pow_pos k
    have hi := Nat.mod_lt (hsh n) hp0
    have hfin := g5 n hn
    rw [hab] at hfin
    have hfn : (bk (hsh n % 2 ^ k)).find? (fun x => nN x == n) = none := by
      cases e : (bk (hsh n % 2 ^ k)).find? (fun x => nN x == n) with
      | none => rfl
      | some x => rw [e] at hfin; cases hfin
    have hne : ∀ x ∈ bk (hsh n % 2 ^ k), nN x ≠ n := fun x hx e => by
      have := List.find?_eq_none.mp hfn x hx
      simp [e] at this
    have hseg := (g4 _ hi).1
    have hnd := (g4 _ hi).2.2
    have hm64 := fun x hx => (seg_mem hseg x hx).1
    have hlen := bk_len hk.1 hm64 (g4 _ hi).2.1 hnd
    -- a node is appended: the buckets are well
    have done : ∀ (h2 : PH) (q : Nat) (f2 : Nat → Option Nat) (z6 z7 z8 z9 z10 z11 z12 : Option Value), h2 mp = some ((r, 2), ob 8 [.null, .null, .ref T, .null, .int (nI sz), .int mc, .int (nI (12 * 2 ^ (k - 4))), .float lf]) → h2 T = some ((r, 8), oa G 5 (2 ^ k) f2) → (∀ i, i < 2 ^ k → i ≠ hsh n % 2 ^ k → chn h2 r d (bk i) (f2 i)) → chn h2 r d (bk (hsh n % 2 ^ k) ++ [(q, t, it, n)]) (f2 (hsh n % 2 ^ k)) → fr (Pm r) h h2 → Go X G h2 (kk - 1) (nn - 4) 259 [some (.ref mp), some (.int (nI (hsh n))), some (.ref t), some (.ref it), some (.int 0), some (.int 1), z6, z7, z8, z9, z10, z11, z12] [] := by
      intro h2 q f2 z6 z7 z8 z9 z10 z11 z12 g1' g2' g4' g4'' hf2
      refine fin h2 _ _ k T f2 (fun i => if i = hsh n % 2 ^ k then bk (hsh n % 2 ^ k) ++ [(q, t, it, n)] else bk i) _ _ _ _ _ _ _ hk g1' g2' g3 (fun i hi2 => ?_) (fun m hm => ?_) hf2 (fun e => ⟨by have := (hbud e).1; omega, by have := (hbud e).2; omega⟩)
      · by_cases e : i = hsh n % 2 ^ k
        · simp only [if_pos e]
          refine ⟨by rw [e]; exact g4'', fun x hx => ?_, ?_⟩
          · rcases List.mem_append.mp hx with w | w
            · rw [e]; exact (g4 _ hi).2.1 x w
            · rw [List.mem_singleton.mp w, e]
          · rw [List.map_append, List.map_singleton, List.nodup_append]
            refine ⟨hnd, by simp, fun a ha b hb e2 => ?_⟩
            obtain ⟨x, hx, ex⟩ := List.mem_map.mp ha
            rw [List.mem_singleton.mp hb] at e2
            exact hne x hx (ex.trans e2)
        · simp only [if_neg e]
          exact ⟨g4' i hi2 e, (g4 i hi2).2⟩
      · by_cases e : m = n
        · subst e
          rw [if_pos rfl]
          show _ = Option.map nV (List.find? _ (ite _ _ _))
          rw [if_pos rfl, List.find?_append, hfn]
          simp
        · rw [if_neg e, g5 m hm]
          show _ = Option.map nV (List.find? _ (ite _ _ _))
          by_cases e2 : hsh m % 2 ^ k = hsh n % 2 ^ k
          · rw [if_pos e2, e2, List.find?_append]
            have : ([(q, t, it, n)] : List Nd).find? (fun x => nN x == m) = none := by
              rw [List.find?_eq_none]
              intro x hx
              rw [List.mem_singleton.mp hx]
              simp
              exact fun z => e z.symm
            rw [this]; simp
          · rw [if_neg e2]
    refine go_aload hC dJ4_putVal_29 rfl ?_
    refine go_iload hC dJ4_putVal_31 rfl ?_
    refine go_iconst hC (1) dJ4_putVal_33 (by decide) ?_
    refine go_isub hC dJ4_putVal_34 ?_
    refine go_iload_n hC dJ4_putVal_35 rfl ?_
    refine go_iand hC dJ4_putVal_36 ?_
    rw [hsh_ix hk.2 hn]
    refine go_dup hC dJ4_putVal_37 rfl ?_
    refine go_istore hC dJ4_putVal_38 (by decide) ?_
    generalize hbk : bk (hsh n % 2 ^ k) = full at hseg hnd hm64 hlen hne hfn
    cases full with
    | nil =>
      have hfi : f (hsh n % 2 ^ k) = none := hseg
      refine go_aaldN hC (hsh n % 2 ^ k) g2 rfl dJ4_putVal_40 (by first | rfl | (simp only [nI_add, pk_mul, nI_1, Int32.add_zero]; done) | (simp only [nI_add, pk_mul, nI_1, Int32.add_zero]; exact congrArg nI (by omega))) (by omega) (by omega) hfi ?_
      refine go_dup hC dJ4_putVal_41 rfl ?_
      refine go_astoreN hC dJ4_putVal_42 (by decide) ?_
      refine go_ifnonnullN hC dJ4_putVal_44 ?_
      refine go_aload hC dJ4_putVal_47 rfl ?_
      refine go_iload hC dJ4_putVal_49 rfl ?_
      refine go_aload_n hC dJ4_putVal_51 rfl ?_
      refine go_iload_n hC dJ4_putVal_52 rfl ?_
      refine go_aload_n hC dJ4_putVal_53 rfl ?_
      refine go_aload_n hC dJ4_putVal_54 rfl ?_
      refine go_null hC dJ4_putVal_55 ?_
      refine go_callV hC (c_J4_newNode g1 (nL9 r n)) (lw_V q1354 q1355 q1356 q78 q1357) g1 rfl dJ4_putVal_56 4 rfl (by decide +kernel) rfl ⟨Nat.le_of_ble_eq_true rfl, Nat.le_of_ble_eq_true rfl⟩ (Nat.le_of_ble_eq_true rfl) hk1 hn4 ?_
      rintro _ h2 ⟨q, rfl, qn, rfl⟩
      refine go_aast hC (hsh n % 2 ^ k) (hu_n qn g2) rfl hu_eq rfl dJ4_putVal_59 (by first | rfl | (simp only [nI_add, pk_mul, nI_1, Int32.add_zero]; done) | (simp only [nI_add, pk_mul, nI_1, Int32.add_zero]; exact congrArg nI (by omega))) (by omega) (by omega) ?_
      refine go_goto hC 259 dJ4_putVal_60 (by decide) ?_
      have hx : hu (hu h1 q (nL9 r n) (ndc (q, t, it, n) none)) T (r, 8) (oa G 5 (2 ^ k) (va_up f (hsh n % 2 ^ k) (some q))) q = some (nL9 r n, ndc (q, t, it, n) none) := hu_k hu_eq (hu_n qn g2) (ow_ne (by omega))
      refine done _ q _ _ _ _ _ _ _ _ (hu_k (hu_n qn g1) (hu_n qn g2) (ow_ne (by decide))) hu_eq (fun i hi2 e => ?_) ?_ ((hf1.nw qn).up (hu_n qn g2) ⟨rfl, Or.inr (Or.inl rfl)⟩)
      · rw [show va_up f (hsh n % 2 ^ k) (some q) i = f i from if_neg e]
        exact seg_up (hu_n qn g2) (ow_nd (by decide)) (fun x _ => ow_nd (by omega)) (seg_new qn (g4 i hi2).1)
      · rw [hbk, show va_up f (hsh n % 2 ^ k) (some q) (hsh n % 2 ^ k) = some q from if_pos rfl]
        exact ⟨rfl, hn, hu_k (hu_n qn ht1) (hu_n qn g2) (Ne.symm (ow_nd (by decide))), none, hx, rfl⟩
    | cons x0 l0 =>
      obtain ⟨nx0, -, hx0, -, hxn0, hxt0⟩ := seg_hd hseg
      have hfi : f (hsh n % 2 ^ k) = some (nA x0) := hseg.1
      have loop : ∀ (l : List Nd) (x : Nd) (pre : List Nd) (p : Option Nat) (z10 : Option Value), seg h1 r d (x :: l) p none → pre ++ (x :: l) = x0 :: l0 → Go X G h1 kk nn 134 [some (.ref mp), some (.int (nI (hsh n))), some (.ref t), some (.ref it), some (.int 0), some (.int 1), some (.ref T), some (.ref (nA x)), some (.int (nI (2 ^ k))), some (.int (nI (hsh n % 2 ^ k))), z10, none, some (.int (nI pre.length))] [] := by
        intro l
        induction l with
        | nil =>
          intro x pre p z10 hs he
          obtain ⟨nx, -, hx, hc2, hxn, hxt⟩ := seg_hd hs
          cases hc2
          have hpl : pre.length ≤ 3 := by
            have := congrArg List.length he
            rw [List.length_append, List.length_singleton] at this
            omega
          have hlast : (x0 :: l0).getLast? = some x := by rw [← he]; simp
          refine go_aload hC dJ4_putVal_134 rfl ?_
          refine go_get hC kJ23 hx 3 q1325 dJ4_putVal_136 rfl (by decide) (Or.inl rfl) ?_
          refine go_dup hC dJ4_putVal_139 rfl ?_
          refine go_astoreN hC dJ4_putVal_140 (by decide) ?_
          refine go_ifnonnullN hC dJ4_putVal_142 ?_
          refine go_aload hC dJ4_putVal_145 rfl ?_
          refine go_aload_n hC dJ4_putVal_147 rfl ?_
          refine go_iload_n hC dJ4_putVal_148 rfl ?_
          refine go_aload_n hC dJ4_putVal_149 rfl ?_
          refine go_aload_n hC dJ4_putVal_150 rfl ?_
          refine go_null hC dJ4_putVal_151 ?_
          refine go_callV hC (c_J4_newNode g1 (nL9 r n)) (lw_V q1354 q1355 q1356 q78 q1357) g1 rfl dJ4_putVal_152 4 rfl (by decide +kernel) rfl ⟨Nat.le_of_ble_eq_true rfl, Nat.le_of_ble_eq_true rfl⟩ (Nat.le_of_ble_eq_true rfl) hk1 hn4 ?_
          rintro _ h2 ⟨q, rfl, qn, rfl⟩
          have hseg2 : seg (hu h1 q (nL9 r n) (ndc (q, t, it, n) none)) r d (x0 :: l0) (f (hsh n % 2 ^ k)) none := seg_new qn hseg
          obtain ⟨-, hset⟩ := seg_set (e' := some q) hseg2 hnd hlast
          have hxm : x ∈ x0 :: l0 := List.mem_of_getLast? hlast
          have hxb : x ∈ bk (hsh n % 2 ^ k) := by rw [hbk]; exact hxm
          have hxq : nN x ≠ n := hne x hxm
          have hx2 := hu_n (o2 := nL9 r n) (e' := ndc (q, t, it, n) none) qn hx
          have hq3 : hu (hu h1 q (nL9 r n) (ndc (q, t, it, n) none)) (nA x) (nL9 r (nN x)) (ndc x (some q)) q = some (nL9 r n, ndc (q, t, it, n) none) := hu_k hu_eq hx2 (nL_ne (Ne.symm hxq))
          refine go_put hC kJ23 hx2 3 q1325 dJ4_putVal_155 (by decide) (Nat.le_of_ble_eq_true rfl) (Or.inl rfl) rfl rfl rfl ?_
          refine go_iload hC dJ4_putVal_158 rfl ?_
          refine go_bipush hC (nI 7) dJ4_putVal_160 (by decide) ?_
          refine go_N_lt hC 222 dJ4_putVal_162 (by decide) rfl rfl (by omega) (by omega) (fun c162 => ?_) (fun z => absurd z (show ¬ 7 ≤ pre.length by omega))
          refine go_aloadN hC dJ4_putVal_222 rfl ?_
          refine go_ifnullN hC 259 dJ4_putVal_224 (by decide) ?_
          refine done _ q f _ _ _ _ _ _ _ (hu_k (hu_n qn g1) hx2 (Ne.symm (ow_nd (by omega)))) (hu_k (hu_n qn g2) hx2 (Ne.symm (ow_nd (by omega)))) (fun i hi2 e => ?_) ?_ ((hf1.nw qn).up hx2 (Pm_n r _))
          · refine seg_up hx2 nL_t (fun y hy => nL_ne (fun e3 => ?_)) (seg_new qn (g4 i hi2).1)
            have e4 := (g4 i hi2).2.1 y hy
            rw [← e3, (g4 _ hi).2.1 x hxb] at e4
            exact e e4.symm
          · rw [hbk]
            exact seg_app (x := (q, t, it, n)) hn (hu_k (hu_n qn ht1) hx2 (Ne.symm nL_t)) hq3 hset
        | cons y l ih =>
          intro x pre p z10 hs he
          obtain ⟨nx, -, hx, hc2, hxn, hxt⟩ := seg_hd hs
          have hnx : nx = some (nA y) := hc2.1
          subst hnx
          obtain ⟨ny, -, hy, -, hyn, hyt⟩ := seg_hd hc2
          have hym : y ∈ x0 :: l0 := by rw [← he]; simp
          have hyq : ¬ hsh (nN y) = hsh n := fun e => hne y hym (hs_inj e)
          refine go_aload hC dJ4_putVal_134 rfl ?_
          refine go_get hC kJ23 hx 3 q1325 dJ4_putVal_136 rfl (by decide) (Or.inl rfl) ?_
          refine go_dup hC dJ4_putVal_139 rfl ?_
          refine go_astore hC dJ4_putVal_140 (by decide) ?_
          refine go_ifnonnull hC 175 dJ4_putVal_142 (by decide) ?_
          refine go_aload hC dJ4_putVal_175 rfl ?_
          refine go_get hC kJ23 hy 0 q1314 dJ4_putVal_177 rfl (by decide) (Or.inl rfl) ?_
          refine go_iload_n hC dJ4_putVal_180 rfl ?_
          refine go_N_ne hC 212 dJ4_putVal_181 (by decide) rfl rfl (hs31 hyn) (hs31 hn) (fun c181 => ?_) (fun z => absurd z hyq)
          refine go_aload hC dJ4_putVal_212 rfl ?_
          refine go_astore hC dJ4_putVal_214 (by decide) ?_
          refine go_iinc hC (v := nI (pre.length + 1)) dJ4_putVal_216 rfl (nI_1 _) (by decide) ?_
          refine go_goto hC 134 dJ4_putVal_219 (by decide) ?_
          have := ih y (pre ++ [x]) (some (nA y)) (some (.ref (nA y))) hc2 (by rw [← he]; simp)
          rw [List.length_append, List.length_singleton] at this
          exact this
      have hq0 : ¬ hsh (nN x0) = hsh n := fun e => hne x0 List.mem_cons_self (hs_inj e)
      refine go_aald hC (hsh n % 2 ^ k) g2 rfl dJ4_putVal_40 (by first | rfl | (simp only [nI_add, pk_mul, nI_1, Int32.add_zero]; done) | (simp only [nI_add, pk_mul, nI_1, Int32.add_zero]; exact congrArg nI (by omega))) (by omega) (by omega) hfi ?_
      refine go_dup hC dJ4_putVal_41 rfl ?_
      refine go_astore hC dJ4_putVal_42 (by decide) ?_
      refine go_ifnonnull hC 63 dJ4_putVal_44 (by decide) ?_
      refine go_aload hC dJ4_putVal_63 rfl ?_
      refine go_get hC kJ23 hx0 0 q1314 dJ4_putVal_65 rfl (by decide) (Or.inl rfl) ?_
      refine go_iload_n hC dJ4_putVal_68 rfl ?_
      refine go_N_ne hC 104 dJ4_putVal_69 (by decide) rfl rfl (hs31 hxn0) (hs31 hn) (fun c69 => ?_) (fun z => absurd z hq0)
      refine go_aload hC dJ4_putVal_104 rfl ?_
      refine go_instNo hC hx0 rfl q865 hC.2.2.2.2.2.1.2.2.2.1.1 dJ4_putVal_106 ?_
      refine go_if_eq hC 131 dJ4_putVal_109 (by decide) (fun _ => ?_) (fun z => absurd rfl z)
      refine go_iconst hC (0) dJ4_putVal_131 (by decide) ?_
      refine go_istore hC dJ4_putVal_132 (by decide) ?_
      exact loop l0 x0 [] _ _ hseg rfl
  rcases hM with hM | ⟨k, T, f, bk, hM⟩
  · refine go_aload_n hC dJ4_putVal_0 rfl ?_
    refine go_get hC kJ4 hM.1 2 q162 dJ4_putVal_1 rfl (by decide) (Or.inl rfl) ?_
    refine go_dup hC dJ4_putVal_4 rfl ?_
    refine go_astoreN hC dJ4_putVal_5 (by decide) ?_
    refine go_ifnullN hC 19 dJ4_putVal_7 (by decide) ?_
    refine go_aload_n hC dJ4_putVal_19 rfl ?_
    refine go_callV hC (c_J4_resize0 (d := d) hM) (lw_V q1284 q1285 q1286 q78 q1287) hM.1 rfl dJ4_putVal_20 0 rfl (by decide +kernel) rfl ⟨Nat.le_of_ble_eq_true rfl, Nat.le_of_ble_eq_true rfl⟩ (Nat.le_of_ble_eq_true rfl) (Nat.le_of_ble_eq_true rfl) (Nat.le_of_ble_eq_true rfl) ?_
    rintro _ h1 ⟨T, rfl, hM1, hf1⟩
    refine go_dup hC dJ4_putVal_23 rfl ?_
    refine go_astore hC dJ4_putVal_24 (by decide) ?_
    refine go_alen hC hM1.2.2.1 rfl dJ4_putVal_26 ?_
    refine go_istore hC dJ4_putVal_27 (by decide) ?_
    exact from29 h1 _ _ 4 T _ _ hM1 hf1 (by decide) (by decide) (fun e => by rw [hM.2.1] at e; exact absurd e (by decide))
  · refine go_aload_n hC dJ4_putVal_0 rfl ?_
    refine go_get hC kJ4 hM.2.1 2 q162 dJ4_putVal_1 rfl (by decide) (Or.inl rfl) ?_
    refine go_dup hC dJ4_putVal_4 rfl ?_
    refine go_astore hC dJ4_putVal_5 (by decide) ?_
    refine go_ifnull hC dJ4_putVal_7 ?_
    refine go_aload hC dJ4_putVal_10 rfl ?_
    refine go_alen hC hM.2.2.1 rfl dJ4_putVal_12 ?_
    refine go_dup hC dJ4_putVal_13 rfl ?_
    refine go_istore hC dJ4_putVal_14 (by decide) ?_
    refine go_if_ne hC 29 dJ4_putVal_16 (by decide) (fun _ => ?_) (fun z => absurd z (nI_ne0 (Nat.two_pow_pos k) (by have : 2 ^ k ≤ 2 ^ 6 := Nat.pow_le_pow_right (by omega) hM.1.2; omega)))
    exact from29 h _ _ k T f bk hM fr.rf (by decide) (by decide) (fun _ => ⟨Nat.le_refl _, Nat.le_refl _⟩)
theorem c_J4_put (hM : HM G h r d mp sz M) (ht : h t = some ((d, 9), tgc n)) (hn : n < 64) (hab : M n = none) (hsz : sz ≤ 47) : CT G yJ4_put cJ4_put 3 (some (.object "java/lang/Object")) (rmL 4 2 68) [.ref mp, .ref t, .ref it] h (fun v h' => v = some .null ∧ HM G h' r d mp (sz + 1) (fun q => if q = n then some it else M q) ∧ fr (Pm r) h h') noX := by
  have hmp : ∃ fs, h mp = some ((r, 2), ob 8 fs) := by
    obtain ⟨mc, lf, w | ⟨k, T, f, bk, w⟩⟩ := hM
    · exact ⟨_, w.1⟩
    · exact ⟨_, w.2.1⟩
  obtain ⟨fs, hmp⟩ := hmp
  refine CT_of [some (.ref mp), some (.ref t), some (.ref it)] (by decide +kernel) rfl (Nat.le_of_ble_eq_true rfl) (fun X hC hF hE => ?_)
  show Go X G h 2 68 0 _ _
  refine go_aload_n hC dJ4_put_0 rfl ?_
  refine go_aload_n hC dJ4_put_1 rfl ?_
  refine go_callS0 hC (c_J4_hash ht hn) (lw_S q750 q751 q78 q752) dJ4_put_2 1 rfl (by decide +kernel) rfl ⟨Nat.le_of_ble_eq_true rfl, Nat.le_of_ble_eq_true rfl⟩ (Nat.le_of_ble_eq_true rfl) ⟨rfl, rfl⟩ ?_
  rintro _ _ ⟨rfl, rfl⟩
  refine go_aload_n hC dJ4_put_5 rfl ?_
  refine go_aload_n hC dJ4_put_6 rfl ?_
  refine go_iconst hC (0) dJ4_put_7 (by decide) ?_
  refine go_iconst hC (1) dJ4_put_8 (by decide) ?_
  refine go_callV hC (c_J4_putVal hM ht hn hab hsz) (lw_V q1280 q1281 q1282 q78 q1283) hmp rfl dJ4_put_9 5 rfl (by decide +kernel) rfl ⟨Nat.le_of_ble_eq_true rfl, Nat.le_of_ble_eq_true rfl⟩ (Nat.le_of_ble_eq_true rfl) (Nat.le_refl _) (Nat.le_refl _) ?_
  rintro _ h2 ⟨rfl, hM2, hf2⟩
  refine go_aret hC hF dJ4_put_12 rfl (Or.inl ⟨_, rfl⟩) (Or.inl rfl) ?_
  exact ⟨rfl, hM2, hf2⟩
end PT
