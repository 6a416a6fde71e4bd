/-! java.util.HashMap: remove -/
set_option maxRecDepth 100000
theorem seg_cut {h : PH} {r d : Nat} : ∀ {pre l : List Nd} {p e : Option Nat}, seg h r d (pre ++ l) p e → ∃ q, seg h r d pre p q ∧ seg h r d l q e
  | [], l, p, e, hs => ⟨p, rfl, hs⟩
  | x :: pre, l, p, e, ⟨e1, hn, ht, nx, ha, hc⟩ => by
    obtain ⟨q, h1, h2⟩ := seg_cut hc
    exact ⟨q, ⟨e1, hn, ht, nx, ha, h1⟩, h2⟩
theorem seg_join {h : PH} {r d : Nat} : ∀ {pre l : List Nd} {p q e : Option Nat}, seg h r d pre p q → seg h r d l q e → seg h r d (pre ++ l) p e
  | [], l, p, q, e, h1, h2 => by cases h1; exact h2
  | x :: pre, l, p, q, e, ⟨e1, hn, ht, nx, ha, hc⟩, h2 => ⟨e1, hn, ht, nx, ha, seg_join hc h2⟩
section RM
variable {G : GT} {h : PH} {r d mp t it a n sz : Nat} {o : Ow} {M : Nat → Option Nat} {k : Nat} {mc : Int32} {lf : UInt32}
theorem c_J4_anr (x : Nat) : CT G yJ4_afterNodeRemoval cJ4_afterNodeRemoval 2 none (rmL 1 0 0) [.ref mp, .ref x] h (fun v h' => v = none ∧ h = h') noX := by
  refine CT_of [some (.ref mp), some (.ref x)] (by decide +kernel) rfl (Nat.le_of_ble_eq_true rfl) (fun X hC hF hE => ?_)
  refine go_vret hC hF dJ4_afterNodeRemoval_0 rfl ?_
  exact ⟨rfl, rfl⟩
theorem c_J4_removeNode (hM : HM G h r d mp sz M) (ht : h t = some ((d, 9), tgc n)) (hn : n < 64) (hin : M n = some it) (hsz : 1 ≤ sz) : CT G yJ4_removeNode cJ4_removeNode 14 (some (.object "java/util/HashMap$Node")) (rmL 3 0 0) [.ref mp, .int (nI (hsh n)), .ref t, .null, .int 0, .int 1] h (fun v h' => ∃ q, v = some (.ref q) ∧ (∃ o x nx, h' q = some (o, ndc x nx)) ∧ HM G h' r d mp (sz - 1) (fun q => if q = n then none else M q) ∧ fr (Pm r) h h') noX := by
  obtain ⟨mc, lf, hM⟩ := hM
  refine CT_of [some (.ref mp), some (.int (nI (hsh n))), some (.ref t), some .null, some (.int 0), some (.int 1), none, none, none, none, none, none, none, none] (by decide +kernel) rfl (Nat.le_of_ble_eq_true rfl) (fun X hC hF hE => ?_)
  rcases hM with ⟨-, -, w⟩ | ⟨k, T, f, bk, hk, g1, g2, g3, g4, g5⟩
  · rw [w n hn] at hin; cases hin
  have hp : 2 ^ k ≤ 2 ^ 6 := Nat.pow_le_pow_right (by omega) hk.2
  have hp0 : 0 < 2 ^ k := Nat.two_pow_pos k
  have h12 : 12 * 2 ^ (k - 4) ≤ 48 := by have : 2 ^ (k - 4) ≤ 2 ^ 2 := Nat.pow_le_pow_right (by omega) (by omega); omega
  have hi := Nat.mod_lt (hsh n) hp0
  have hfin := g5 n hn
  rw [hin] at hfin
  obtain ⟨xx, hxx⟩ : ∃ x, (bk (hsh n % 2 ^ k)).find? (fun x => nN x == n) = some x := by
    cases e : (bk (hsh n % 2 ^ k)).find? (fun x => nN x == n) with
    | none => rw [e] at hfin; cases hfin
    | some x => exact ⟨x, rfl⟩
  have hxmem := List.mem_of_find?_eq_some hxx
  have hxnum : nN xx = n := by have := List.find?_some hxx; simpa using this
  have hseg := (g4 _ hi).1
  have hnd := (g4 _ hi).2.2
  -- the end, from 260 on
  have fin : ∀ (h1 : PH) (f1 : Nat → Option Nat) (pre l : List Nd) (x : Nd) (z6 z7 z8 z9 z11 z12 z13 : Option Value), bk (hsh n % 2 ^ k) = pre ++ x :: l → nN x = n → h1 mp = some ((r, 2), ob 8 [.null, .null, .ref T, .null, .int (nI sz), .int mc, .int (nI (12 * 2 ^ (k - 4))), .float lf]) → h1 T = some ((r, 8), oa G 5 (2 ^ k) f1) → (∃ nx, h1 (nA x) = some (nL9 r (nN x), ndc x nx)) → (∀ i, i < 2 ^ k → i ≠ hsh n % 2 ^ k → chn h1 r d (bk i) (f1 i)) → chn h1 r d (pre ++ l) (f1 (hsh n % 2 ^ k)) → fr (Pm r) h h1 → Go X G h1 0 0 260 [some (.ref mp), some (.int (nI (hsh n))), some (.ref t), some .null, some (.int 0), some (.int 1), z6, z7, z8, z9, some (.ref (nA x)), z11, z12, z13] [] := by
    intro h1 f1 pre l x z6 z7 z8 z9 z11 z12 z13 hb hx g1' g2' hxc g4' g4'' hf1
    have e1 : nI sz - 1 = nI (sz - 1) := pk_sub (b := 1) hsz
    have hnd2 := hnd
    rw [hb, List.map_append, List.map_cons, List.nodup_append] at hnd2
    obtain ⟨n1, n2, n3⟩ := hnd2
    rw [List.nodup_cons] at n2
    have hpre : ∀ y ∈ pre, nN y ≠ n := fun y hy => by rw [← hx]; exact n3 _ (List.mem_map.mpr ⟨y, hy, rfl⟩) _ (by simp)
    have hl9 : ∀ y ∈ l, nN y ≠ n := fun y hy e => n2.1 (by rw [hx, ← e]; exact List.mem_map.mpr ⟨y, hy, rfl⟩)
    obtain ⟨nx, hxc⟩ := hxc
    refine go_aload_n hC dJ4_removeNode_260 rfl ?_
    refine go_dup hC dJ4_removeNode_261 rfl ?_
    refine go_get hC kJ4 g1' 5 q164 dJ4_removeNode_262 rfl (by decide) (Or.inl rfl) ?_
    refine go_iconst hC (1) dJ4_removeNode_265 (by decide) ?_
    refine go_iadd hC dJ4_removeNode_266 ?_
    refine go_put hC kJ4 g1' 5 q164 dJ4_removeNode_267 (by decide) (Nat.le_of_ble_eq_true rfl) (Or.inl rfl) rfl rfl rfl ?_
    refine go_aload_n hC dJ4_removeNode_270 rfl ?_
    refine go_dup hC dJ4_removeNode_271 rfl ?_
    refine go_get hC kJ4 hu_eq 4 q163 dJ4_removeNode_272 rfl (by decide) (Or.inl rfl) ?_
    refine go_iconst hC (1) dJ4_removeNode_275 (by decide) ?_
    refine go_isub hC dJ4_removeNode_276 ?_
    rw [e1]
    refine go_put hC kJ4 hu_eq 4 q163 dJ4_removeNode_277 (by decide) (Nat.le_of_ble_eq_true rfl) (Or.inl rfl) rfl rfl rfl ?_
    rw [hu_hu]
    generalize hh : hu h1 mp (r, 2) _ = h2
    have q1 : h2 mp = some ((r, 2), ob 8 [.null, .null, .ref T, .null, .int (nI (sz - 1)), .int (mc + 1), .int (nI (12 * 2 ^ (k - 4))), .float lf]) := by rw [← hh, hu_eq]; rfl
    have q2 : h2 T = some ((r, 8), oa G 5 (2 ^ k) f1) := by rw [← hh]; exact hu_k g2' g1' (ow_ne (by decide))
    have q3 : h2 (nA x) = some (nL9 r (nN x), ndc x nx) := by rw [← hh]; exact hu_k hxc g1' (Ne.symm (ow_nd (by omega)))
    refine go_aload_n hC dJ4_removeNode_280 rfl ?_
    refine go_aload hC dJ4_removeNode_281 rfl ?_
    refine go_callV0 hC (c_J4_anr (nA x)) (lw_V q1468 q1469 q1470 q78 q1471) q1 rfl dJ4_removeNode_283 1 rfl (by decide +kernel) rfl ⟨Nat.le_of_ble_eq_true rfl, Nat.le_of_ble_eq_true rfl⟩ (Nat.le_of_ble_eq_true rfl) ⟨rfl, rfl⟩ ?_
    rintro _ _ ⟨rfl, rfl⟩
    refine go_aload hC dJ4_removeNode_286 rfl ?_
    refine go_aret hC hF dJ4_removeNode_288 rfl (Or.inl ⟨_, rfl⟩) (Or.inr ⟨_, rfl⟩) ?_
    refine ⟨_, rfl, ⟨_, _, _, q3⟩, ⟨mc + 1, lf, Or.inr ⟨k, T, f1, fun i => if i = hsh n % 2 ^ k then pre ++ l else bk i, hk, q1, q2, by omega, fun i hi2 => ?_, fun m hm => ?_⟩⟩, by rw [← hh]; exact hf1.up g1' ⟨rfl, Or.inl rfl⟩⟩
    · by_cases e : i = hsh n % 2 ^ k
      · simp only [if_pos e]
        refine ⟨by rw [e, ← hh]; exact seg_up g1' (ow_nd (by decide)) (fun x _ => ow_nd (by omega)) g4'', fun y hy => ?_, ?_⟩
        · rw [e]
          refine (g4 _ hi).2.1 y ?_
          rw [hb]
          rcases List.mem_append.mp hy with w | w
          · exact List.mem_append_left _ w
          · exact List.mem_append_right _ (List.mem_cons_of_mem _ w)
        · rw [List.map_append, List.nodup_append]
          exact ⟨n1, n2.2, fun a ha b hb2 => n3 a ha b (List.mem_cons_of_mem _ hb2)⟩
      · simp only [if_neg e]
        exact ⟨by rw [← hh]; exact seg_up g1' (ow_nd (by decide)) (fun x _ => ow_nd (by omega)) (g4' i hi2 e), (g4 i hi2).2⟩
    · by_cases e : m = n
      · subst e
        show ite _ _ _ = _
        rw [if_pos rfl]
        show _ = Option.map nV (List.find? _ (ite _ _ _))
        rw [if_pos rfl]
        have : (pre ++ l).find? (fun x => nN x == m) = none := by
          rw [List.find?_eq_none]
          intro y hy
          rcases List.mem_append.mp hy with w | w
          · simpa using hpre y w
          · simpa using hl9 y w
        rw [this]; rfl
      · show ite _ _ _ = _
        rw [if_neg e, g5 m hm]
        show _ = Option.map nV (List.find? _ (ite _ _ _))
        by_cases e2 : hsh m % 2 ^ k = hsh n % 2 ^ k
        · rw [if_pos e2, e2, hb, List.find?_append, List.find?_append, List.find?_cons_of_neg (by rw [hx]; simp; exact fun z => e z.symm)]
        · rw [if_neg e2]
  -- the node is found: it is the first, or behind pz
  have finA : ∀ (l : List Nd) (x : Nd) (z11 z12 : Option Value), bk (hsh n % 2 ^ k) = x :: l → nN x = n → Go X G h 0 0 171 [some (.ref mp), some (.int (nI (hsh n))), some (.ref t), some .null, some (.int 0), some (.int 1), some (.ref T), some (.ref (nA x)), some (.int (nI (2 ^ k))), some (.int (nI (hsh n % 2 ^ k))), some (.ref (nA x)), z11, z12, none] [] := by
    intro l x z11 z12 hb hx
    have hs := hseg
    rw [hb] at hs
    obtain ⟨nx, -, hxc, hc2, hxn, hxt⟩ := seg_hd hs
    refine go_aload hC dJ4_removeNode_171 rfl ?_
    refine go_ifnull hC dJ4_removeNode_173 ?_
    refine go_iload hC dJ4_removeNode_176 rfl ?_
    refine go_if_eq hC 206 dJ4_removeNode_178 (by decide) (fun _ => ?_) (fun z => absurd rfl z)
    refine go_aload hC dJ4_removeNode_206 rfl ?_
    refine go_instNo hC hxc rfl q865 hC.2.2.2.2.2.1.2.2.2.1.1 dJ4_removeNode_208 ?_
    refine go_if_eq hC 230 dJ4_removeNode_211 (by decide) (fun _ => ?_) (fun z => absurd rfl z)
    refine go_aload hC dJ4_removeNode_230 rfl ?_
    refine go_aload hC dJ4_removeNode_232 rfl ?_
    refine go_acmp_ne_rr hC 250 dJ4_removeNode_234 (by decide) (fun z => absurd rfl z) (fun _ => ?_)
    refine go_aload hC dJ4_removeNode_237 rfl ?_
    refine go_iload hC dJ4_removeNode_239 rfl ?_
    refine go_aload hC dJ4_removeNode_241 rfl ?_
    refine go_get hC kJ23 hxc 3 q1325 dJ4_removeNode_243 rfl (by decide) (Or.inl rfl) ?_
    have g4' : ∀ (v : Option Nat) i, i < 2 ^ k → i ≠ hsh n % 2 ^ k → chn (hu h T (r, 8) (oa G 5 (2 ^ k) (va_up f (hsh n % 2 ^ k) v))) r d (bk i) (va_up f (hsh n % 2 ^ k) v i) := fun v i hi2 e => by
      rw [show va_up f (hsh n % 2 ^ k) v i = f i from if_neg e]
      exact seg_up g2 (ow_nd (by decide)) (fun x _ => ow_nd (by omega)) (g4 i hi2).1
    have g4'' : ∀ (v : Option Nat), v = nx → chn (hu h T (r, 8) (oa G 5 (2 ^ k) (va_up f (hsh n % 2 ^ k) v))) r d ([] ++ l) (va_up f (hsh n % 2 ^ k) v (hsh n % 2 ^ k)) := fun v hv => by
      rw [show va_up f (hsh n % 2 ^ k) v (hsh n % 2 ^ k) = v from if_pos rfl, hv]
      exact seg_up g2 (ow_nd (by decide)) (fun x _ => ow_nd (by omega)) hc2
    have hxc2 : ∀ (v : Option Nat), hu h T (r, 8) (oa G 5 (2 ^ k) (va_up f (hsh n % 2 ^ k) v)) (nA x) = some (nL9 r (nN x), ndc x nx) := fun v => hu_k hxc g2 (Ne.symm (ow_nd (by omega)))
    cases hnx : nx with
    | none =>
      refine go_aastN hC (hsh n % 2 ^ k) g2 rfl dJ4_removeNode_246 (by first | rfl | (simp only [nI_add, pk_mul, nI_1, Int32.add_zero]; done) | (simp only [nI_add, pk_mul, nI_1, Int32.add_zero]; exact congrArg nI (by omega))) (by omega) (by omega) ?_
      refine go_goto hC 260 dJ4_removeNode_247 (by decide) ?_
      exact fin _ _ [] l x _ _ _ _ _ _ _ hb hx (hu_k g1 g2 (ow_ne (by decide))) hu_eq ⟨nx, hxc2 _⟩ (g4' none) (g4'' none hnx.symm) (fr.rf.up g2 ⟨rfl, Or.inr (Or.inl rfl)⟩)
    | some q =>
      have hv : ∃ (o2 : Ow) (vs : List Value), h q = some (o2, ob 9 vs) := by
        rw [hnx] at hc2
        cases l with
        | nil => cases hc2
        | cons y l =>
          obtain ⟨ny, -, hy, -⟩ := seg_hd hc2
          have : some q = some (nA y) := hc2.1
          cases this
          exact ⟨_, _, hy⟩
      obtain ⟨o2, vs, hv⟩ := hv
      refine go_aast hC (hsh n % 2 ^ k) g2 rfl hv rfl dJ4_removeNode_246 (by first | rfl | (simp only [nI_add, pk_mul, nI_1, Int32.add_zero]; done) | (simp only [nI_add, pk_mul, nI_1, Int32.add_zero]; exact congrArg nI (by omega))) (by omega) (by omega) ?_
      refine go_goto hC 260 dJ4_removeNode_247 (by decide) ?_
      exact fin _ _ [] l x _ _ _ _ _ _ _ hb hx (hu_k g1 g2 (ow_ne (by decide))) hu_eq ⟨nx, hxc2 _⟩ (g4' (some q)) (g4'' (some q) hnx.symm) (fr.rf.up g2 ⟨rfl, Or.inr (Or.inl rfl)⟩)
  have finB : ∀ (pre l : List Nd) (x pz : Nd) (z11 z12 : Option Value), bk (hsh n % 2 ^ k) = pre ++ x :: l → nN x = n → pre.getLast? = some pz → Go X G h 0 0 171 [some (.ref mp), some (.int (nI (hsh n))), some (.ref t), some .null, some (.int 0), some (.int 1), some (.ref T), some (.ref (nA pz)), some (.int (nI (2 ^ k))), some (.int (nI (hsh n % 2 ^ k))), some (.ref (nA x)), z11, z12, none] [] := by
    intro pre l x pz z11 z12 hb hx hpz
    have hs := hseg
    rw [hb] at hs
    obtain ⟨q, hs1, hs2⟩ := seg_cut hs
    obtain ⟨nx, -, hxc, hc2, hxn, hxt⟩ := seg_hd hs2
    have hnd2 := hnd
    rw [hb, List.map_append, List.map_cons, List.nodup_append] at hnd2
    obtain ⟨n1, n2, n3⟩ := hnd2
    obtain ⟨⟨np, hpc⟩, hset⟩ := seg_set (e' := nx) hs1 n1 hpz
    have hpm := List.mem_of_getLast? hpz
    have hpx : nN pz ≠ nN x := n3 _ (List.mem_map.mpr ⟨pz, hpm, rfl⟩) _ (by simp)
    have hpl : ∀ y ∈ l, nN pz ≠ nN y := fun y hy => n3 _ (List.mem_map.mpr ⟨pz, hpm, rfl⟩) _ (List.mem_cons_of_mem _ (List.mem_map.mpr ⟨y, hy, rfl⟩))
    have hane : ¬ (some (nA x) : Option Nat) = some (nA pz) := fun e => by
      have e2 : nA x = nA pz := Option.some.inj e
      rw [e2, hpc] at hxc
      have : nL9 r (nN pz) = nL9 r (nN x) := congrArg Prod.fst (Option.some.inj hxc)
      exact nL_ne hpx this
    have hpb : pz ∈ bk (hsh n % 2 ^ k) := by rw [hb]; exact List.mem_append_left _ hpm
    have hgo : Go X G (hu h (nA pz) (nL9 r (nN pz)) (ndc pz nx)) 0 0 260 [some (.ref mp), some (.int (nI (hsh n))), some (.ref t), some .null, some (.int 0), some (.int 1), some (.ref T), some (.ref (nA pz)), some (.int (nI (2 ^ k))), some (.int (nI (hsh n % 2 ^ k))), some (.ref (nA x)), z11, z12, none] [] := by
      refine fin _ f pre l x _ _ _ _ _ _ _ hb hx (hu_k g1 hpc (Ne.symm (ow_nd (by omega)))) (hu_k g2 hpc (Ne.symm (ow_nd (by omega)))) ⟨nx, hu_k hxc hpc (nL_ne (Ne.symm hpx))⟩ (fun i hi2 e => ?_) ?_ (fr.rf.up hpc (Pm_n r _))
      · refine seg_up hpc nL_t (fun y hy => nL_ne (fun e3 => ?_)) (g4 i hi2).1
        have e4 := (g4 i hi2).2.1 y hy
        rw [← e3, (g4 _ hi).2.1 pz hpb] at e4
        exact e e4.symm
      · exact seg_join hset (seg_up hpc nL_t (fun y hy => nL_ne (hpl y hy)) hc2)
    refine go_aload hC dJ4_removeNode_171 rfl ?_
    refine go_ifnull hC dJ4_removeNode_173 ?_
    refine go_iload hC dJ4_removeNode_176 rfl ?_
    refine go_if_eq hC 206 dJ4_removeNode_178 (by decide) (fun _ => ?_) (fun z => absurd rfl z)
    refine go_aload hC dJ4_removeNode_206 rfl ?_
    refine go_instNo hC hxc rfl q865 hC.2.2.2.2.2.1.2.2.2.1.1 dJ4_removeNode_208 ?_
    refine go_if_eq hC 230 dJ4_removeNode_211 (by decide) (fun _ => ?_) (fun z => absurd rfl z)
    refine go_aload hC dJ4_removeNode_230 rfl ?_
    refine go_aload hC dJ4_removeNode_232 rfl ?_
    refine go_acmp_ne_rr hC 250 dJ4_removeNode_234 (by decide) (fun _ => ?_) (fun z => absurd z hane)
    refine go_aload hC dJ4_removeNode_250 rfl ?_
    refine go_aload hC dJ4_removeNode_252 rfl ?_
    refine go_get hC kJ23 hxc 3 q1325 dJ4_removeNode_254 rfl (by decide) (Or.inl rfl) ?_
    cases hnx : nx with
    | none =>
      rw [hnx] at hgo
      refine go_put hC kJ23 hpc 3 q1325 dJ4_removeNode_257 (by decide) (Nat.le_of_ble_eq_true rfl) (Or.inl rfl) rfl rfl rfl ?_
      exact hgo
    | some q =>
      rw [hnx] at hgo
      refine go_put hC kJ23 hpc 3 q1325 dJ4_removeNode_257 (by decide) (Nat.le_of_ble_eq_true rfl) (Or.inl rfl) rfl rfl rfl ?_
      exact hgo
  have loop : ∀ (l : List Nd) (x : Nd) (pre : List Nd) (pz : Nd) (p : Option Nat) (z12 : Option Value), seg h r d (x :: l) p none → pre ++ (x :: l) = bk (hsh n % 2 ^ k) → pre.getLast? = some pz → (∀ y ∈ pre, nN y ≠ n) → Go X G h 0 0 115 [some (.ref mp), some (.int (nI (hsh n))), some (.ref t), some .null, some (.int 0), some (.int 1), some (.ref T), some (.ref (nA pz)), some (.int (nI (2 ^ k))), some (.int (nI (hsh n % 2 ^ k))), some .null, some (.ref (nA x)), z12, none] [] := by
    intro l
    induction l with
    | nil =>
      intro x pre pz p z12 hs he hpz hpre
      obtain ⟨nx, -, hxc, hc2, hxn, hxt⟩ := seg_hd hs
      have hxq : nN x = n := by
        rw [← he] at hxmem
        rcases List.mem_append.mp hxmem with w | w
        · exact absurd hxnum (hpre xx w)
        · rw [List.mem_singleton.mp w] at hxnum; exact hxnum
      refine go_aload hC dJ4_removeNode_115 rfl ?_
      refine go_get hC kJ23 hxc 0 q1314 dJ4_removeNode_117 rfl (by decide) (Or.inl rfl) ?_
      refine go_iload_n hC dJ4_removeNode_120 rfl ?_
      refine go_N_ne hC 156 dJ4_removeNode_121 (by decide) rfl rfl (hs31 hxn) (hs31 hn) (fun z => absurd z (fun z => z (by rw [hxq]))) (fun c121 => ?_)
      refine go_aload hC dJ4_removeNode_124 rfl ?_
      refine go_get hC kJ23 hxc 1 q1318 dJ4_removeNode_126 rfl (by decide) (Or.inl rfl) ?_
      refine go_dup hC dJ4_removeNode_129 rfl ?_
      refine go_astore hC dJ4_removeNode_130 (by decide) ?_
      refine go_aload_n hC dJ4_removeNode_132 rfl ?_
      refine go_acmp_eq_rr hC 149 dJ4_removeNode_133 (by decide) (fun c133 => ?_) (fun c133 => ?_)
      · refine go_aload hC dJ4_removeNode_149 rfl ?_
        refine go_astore hC dJ4_removeNode_151 (by decide) ?_
        refine go_goto hC 171 dJ4_removeNode_153 (by decide) ?_
        exact finB pre [] x pz _ _ he.symm hxq hpz
      · refine go_aload_n hC dJ4_removeNode_136 rfl ?_
        refine go_ifnull hC dJ4_removeNode_137 ?_
        refine go_aload_n hC dJ4_removeNode_140 rfl ?_
        refine go_aload hC dJ4_removeNode_141 rfl ?_
        refine go_callO0 hC (c_X5_equals ht hxt (by omega) (by omega)) (lw_U q836 q838 q844 q845 q107 q846) q835 ht rfl rfl dJ4_removeNode_143 1 rfl (by decide +kernel) rfl ⟨Nat.le_of_ble_eq_true rfl, Nat.le_of_ble_eq_true rfl⟩ (Nat.le_of_ble_eq_true rfl) ⟨rfl, rfl⟩ ?_
        rintro _ _ ⟨rfl, rfl⟩
        refine go_B_eq hC 156 dJ4_removeNode_146 (by decide) rfl (fun z => absurd z (by rw [decide_eq_true hxq.symm]; decide)) (fun c146 => ?_)
        refine go_aload hC dJ4_removeNode_149 rfl ?_
        refine go_astore hC dJ4_removeNode_151 (by decide) ?_
        refine go_goto hC 171 dJ4_removeNode_153 (by decide) ?_
        exact finB pre [] x pz _ _ he.symm hxq hpz
    | cons y l ih =>
      intro x pre pz p z12 hs he hpz hpre
      obtain ⟨nx, -, hxc, hc2, hxn, hxt⟩ := seg_hd hs
      have hnx : nx = some (nA y) := hc2.1
      subst hnx
      refine go_aload hC dJ4_removeNode_115 rfl ?_
      refine go_get hC kJ23 hxc 0 q1314 dJ4_removeNode_117 rfl (by decide) (Or.inl rfl) ?_
      refine go_iload_n hC dJ4_removeNode_120 rfl ?_
      refine go_N_ne hC 156 dJ4_removeNode_121 (by decide) rfl rfl (hs31 hxn) (hs31 hn) (fun c121 => ?_) (fun c121 => ?_)
      · have hxq : nN x ≠ n := fun e => c121 (by rw [e])
        refine go_aload hC dJ4_removeNode_156 rfl ?_
        refine go_astore hC dJ4_removeNode_158 (by decide) ?_
        refine go_aload hC dJ4_removeNode_160 rfl ?_
        refine go_get hC kJ23 hxc 3 q1325 dJ4_removeNode_162 rfl (by decide) (Or.inl rfl) ?_
        refine go_dup hC dJ4_removeNode_165 rfl ?_
        refine go_astore hC dJ4_removeNode_166 (by decide) ?_
        refine go_ifnonnull hC 115 dJ4_removeNode_168 (by decide) ?_
        exact ih y (pre ++ [x]) x _ _ hc2 (by rw [← he]; simp) (by simp) (fun w hw => by rcases List.mem_append.mp hw with q | q; exact hpre w q; rw [List.mem_singleton.mp q]; exact hxq)
      · have hxq : nN x = n := hs_inj c121
        refine go_aload hC dJ4_removeNode_124 rfl ?_
        refine go_get hC kJ23 hxc 1 q1318 dJ4_removeNode_126 rfl (by decide) (Or.inl rfl) ?_
        refine go_dup hC dJ4_removeNode_129 rfl ?_
        refine go_astore hC dJ4_removeNode_130 (by decide) ?_
        refine go_aload_n hC dJ4_removeNode_132 rfl ?_
        refine go_acmp_eq_rr hC 149 dJ4_removeNode_133 (by decide) (fun c133 => ?_) (fun c133 => ?_)
        · refine go_aload hC dJ4_removeNode_149 rfl ?_
          refine go_astore hC dJ4_removeNode_151 (by decide) ?_
          refine go_goto hC 171 dJ4_removeNode_153 (by decide) ?_
          exact finB pre (y :: l) x pz _ _ he.symm hxq hpz
        · refine go_aload_n hC dJ4_removeNode_136 rfl ?_
          refine go_ifnull hC dJ4_removeNode_137 ?_
          refine go_aload_n hC dJ4_removeNode_140 rfl ?_
          refine go_aload hC dJ4_removeNode_141 rfl ?_
          refine go_callO0 hC (c_X5_equals ht hxt (by omega) (by omega)) (lw_U q836 q838 q844 q845 q107 q846) q835 ht rfl rfl dJ4_removeNode_143 1 rfl (by decide +kernel) rfl ⟨Nat.le_of_ble_eq_true rfl, Nat.le_of_ble_eq_true rfl⟩ (Nat.le_of_ble_eq_true rfl) ⟨rfl, rfl⟩ ?_
          rintro _ _ ⟨rfl, rfl⟩
          refine go_B_eq hC 156 dJ4_removeNode_146 (by decide) rfl (fun z => absurd z (by rw [decide_eq_true hxq.symm]; decide)) (fun c146 => ?_)
          refine go_aload hC dJ4_removeNode_149 rfl ?_
          refine go_astore hC dJ4_removeNode_151 (by decide) ?_
          refine go_goto hC 171 dJ4_removeNode_153 (by decide) ?_
          exact finB pre (y :: l) x pz _ _ he.symm hxq hpz
  refine go_aload_n hC dJ4_removeNode_0 rfl ?_
  refine go_get hC kJ4 g1 2 q162 dJ4_removeNode_1 rfl (by decide) (Or.inl rfl) ?_
  refine go_dup hC dJ4_removeNode_4 rfl ?_
  refine go_astore hC dJ4_removeNode_5 (by decide) ?_
  refine go_ifnull hC dJ4_removeNode_7 ?_
  refine go_aload hC dJ4_removeNode_10 rfl ?_
  refine go_alen hC g2 rfl dJ4_removeNode_12 ?_
  refine go_dup hC dJ4_removeNode_13 rfl ?_
  refine go_istore hC dJ4_removeNode_14 (by decide) ?_
  refine go_if_le hC 289 dJ4_removeNode_16 (by decide) (fun z => absurd z (nI_nle hp0 (by omega))) (fun _ => ?_)
  refine go_aload hC dJ4_removeNode_19 rfl ?_
  refine go_iload hC dJ4_removeNode_21 rfl ?_
  refine go_iconst hC (1) dJ4_removeNode_23 (by decide) ?_
  refine go_isub hC dJ4_removeNode_24 ?_
  refine go_iload_n hC dJ4_removeNode_25 rfl ?_
  refine go_iand hC dJ4_removeNode_26 ?_
  rw [hsh_ix hk.2 hn]
  refine go_dup hC dJ4_removeNode_27 rfl ?_
  refine go_istore hC dJ4_removeNode_28 (by decide) ?_
  cases hbk : bk (hsh n % 2 ^ k) with
  | nil => rw [hbk] at hxmem; cases hxmem
  | cons x l =>
    have hs := hseg
    rw [hbk] at hs
    obtain ⟨nx, -, hxc, hc2, hxn, hxt⟩ := seg_hd hs
    have hfi : f (hsh n % 2 ^ k) = some (nA x) := hs.1
    refine go_aald hC (hsh n % 2 ^ k) g2 rfl dJ4_removeNode_30 (by first | rfl | (simp only [nI_add, pk_mul, nI_1, Int32.add_zero]; done) | (simp only [nI_add, pk_mul, nI_1, Int32.add_zero]; exact congrArg nI (by omega))) (by omega) (by omega) hfi ?_
    refine go_dup hC dJ4_removeNode_31 rfl ?_
    refine go_astore hC dJ4_removeNode_32 (by decide) ?_
    refine go_ifnull hC dJ4_removeNode_34 ?_
    refine go_null hC dJ4_removeNode_37 ?_
    refine go_astoreN hC dJ4_removeNode_38 (by decide) ?_
    refine go_aload hC dJ4_removeNode_40 rfl ?_
    refine go_get hC kJ23 hxc 0 q1314 dJ4_removeNode_42 rfl (by decide) (Or.inl rfl) ?_
    refine go_iload_n hC dJ4_removeNode_45 rfl ?_
    refine go_N_ne hC 81 dJ4_removeNode_46 (by decide) rfl rfl (hs31 hxn) (hs31 hn) (fun c46 => ?_) (fun c46 => ?_)
    · have hxq : nN x ≠ n := fun e => c46 (by rw [e])
      cases l with
      | nil =>
        rw [hbk, List.mem_singleton] at hxmem
        rw [hxmem] at hxnum
        exact absurd hxnum hxq
      | cons y l =>
        have hnx : nx = some (nA y) := hc2.1
        subst hnx
        refine go_aload hC dJ4_removeNode_81 rfl ?_
        refine go_get hC kJ23 hxc 3 q1325 dJ4_removeNode_83 rfl (by decide) (Or.inl rfl) ?_
        refine go_dup hC dJ4_removeNode_86 rfl ?_
        refine go_astore hC dJ4_removeNode_87 (by decide) ?_
        refine go_ifnull hC dJ4_removeNode_89 ?_
        refine go_aload hC dJ4_removeNode_92 rfl ?_
        refine go_instNo hC hxc rfl q865 hC.2.2.2.2.2.1.2.2.2.1.1 dJ4_removeNode_94 ?_
        refine go_if_eq hC 115 dJ4_removeNode_97 (by decide) (fun _ => ?_) (fun z => absurd rfl z)
        exact loop l y [x] x _ _ hc2 hbk.symm rfl (fun w hw => by rw [List.mem_singleton.mp hw]; exact hxq)
    · have hxq : nN x = n := hs_inj c46
      refine go_aload hC dJ4_removeNode_49 rfl ?_
      refine go_get hC kJ23 hxc 1 q1318 dJ4_removeNode_51 rfl (by decide) (Or.inl rfl) ?_
      refine go_dup hC dJ4_removeNode_54 rfl ?_
      refine go_astore hC dJ4_removeNode_55 (by decide) ?_
      refine go_aload_n hC dJ4_removeNode_57 rfl ?_
      refine go_acmp_eq_rr hC 74 dJ4_removeNode_58 (by decide) (fun c58 => ?_) (fun c58 => ?_)
      · refine go_aload hC dJ4_removeNode_74 rfl ?_
        refine go_astore hC dJ4_removeNode_76 (by decide) ?_
        refine go_goto hC 171 dJ4_removeNode_78 (by decide) ?_
        exact finA l x _ _ hbk hxq
      · refine go_aload_n hC dJ4_removeNode_61 rfl ?_
        refine go_ifnull hC dJ4_removeNode_62 ?_
        refine go_aload_n hC dJ4_removeNode_65 rfl ?_
        refine go_aload hC dJ4_removeNode_66 rfl ?_
        refine go_callO0 hC (c_X5_equals ht hxt (by omega) (by omega)) (lw_U q836 q838 q844 q845 q107 q846) q835 ht rfl rfl dJ4_removeNode_68 1 rfl (by decide +kernel) rfl ⟨Nat.le_of_ble_eq_true rfl, Nat.le_of_ble_eq_true rfl⟩ (Nat.le_of_ble_eq_true rfl) ⟨rfl, rfl⟩ ?_
        rintro _ _ ⟨rfl, rfl⟩
        refine go_B_eq hC 81 dJ4_removeNode_71 (by decide) rfl (fun z => absurd z (by rw [decide_eq_true hxq.symm]; decide)) (fun c71 => ?_)
        refine go_aload hC dJ4_removeNode_74 rfl ?_
        refine go_astore hC dJ4_removeNode_76 (by decide) ?_
        refine go_goto hC 171 dJ4_removeNode_78 (by decide) ?_
        exact finA l x _ _ hbk hxq
theorem c_J4_remove (hM : HM G h r d mp sz M) (ht : h t = some ((d, 9), tgc n)) (hn : n < 64) (hin : M n = some it) (hsz : 1 ≤ sz) : CT G yJ4_remove cJ4_remove 3 (some (.object "java/lang/Object")) (rmL 4 0 0) [.ref mp, .ref t] h (fun v h' => (∃ w, v = some (.ref w)) ∧ HM G h' r d mp (sz - 1) (fun q => if q = n then none else M q) ∧ fr (Pm r) h h') noX := by
  have hmp : ∃ fs, h mp = some ((r, 2), ob 8 fs) := by
    obtain ⟨mc, lf, w | ⟨k, T, f, bk, w⟩⟩ := hM
    · exact ⟨_, w.1⟩
    · exact ⟨_, w.2.1⟩
  obtain ⟨fs, hmp⟩ := hmp
  refine CT_of [some (.ref mp), some (.ref t), none] (by decide +kernel) rfl (Nat.le_of_ble_eq_true rfl) (fun X hC hF hE => ?_)
  refine go_aload_n hC dJ4_remove_0 rfl ?_
  refine go_aload_n hC dJ4_remove_1 rfl ?_
  refine go_callS0 hC (c_J4_hash ht hn) (lw_S q750 q751 q78 q752) dJ4_remove_2 1 rfl (by decide +kernel) rfl ⟨Nat.le_of_ble_eq_true rfl, Nat.le_of_ble_eq_true rfl⟩ (Nat.le_of_ble_eq_true rfl) ⟨rfl, rfl⟩ ?_
  rintro _ _ ⟨rfl, rfl⟩
  refine go_aload_n hC dJ4_remove_5 rfl ?_
  refine go_null hC dJ4_remove_6 ?_
  refine go_iconst hC (0) dJ4_remove_7 (by decide) ?_
  refine go_iconst hC (1) dJ4_remove_8 (by decide) ?_
  refine go_callV0 hC (c_J4_removeNode hM ht hn hin hsz) (lw_V q1457 q1458 q1459 q78 q1460) hmp rfl dJ4_remove_9 5 rfl (by decide +kernel) rfl ⟨Nat.le_of_ble_eq_true rfl, Nat.le_of_ble_eq_true rfl⟩ (Nat.le_of_ble_eq_true rfl) ⟨rfl, rfl⟩ ?_
  rintro _ h2 ⟨q, rfl, ⟨o2, x2, nx2, hq⟩, hM2, hf2⟩
  refine go_dup hC dJ4_remove_12 rfl ?_
  refine go_astore_n hC dJ4_remove_13 (by decide) ?_
  refine go_ifnonnull hC 21 dJ4_remove_14 (by decide) ?_
  refine go_aload_n hC dJ4_remove_21 rfl ?_
  refine go_get hC kJ23 hq 2 q1320 dJ4_remove_22 rfl (by decide) (Or.inl rfl) ?_
  refine go_aret hC hF dJ4_remove_25 rfl (Or.inl ⟨_, rfl⟩) (Or.inr ⟨_, rfl⟩) ?_
  exact ⟨⟨_, rfl⟩, hM2, hf2⟩
end RM
