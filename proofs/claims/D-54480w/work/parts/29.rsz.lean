/-! java.util.HashMap: the table grows -/
set_option maxRecDepth 100000
/-- a chain that is being built: empty, or its last next is not said -/
def opc (h : PH) (r d : Nat) (l : List Nd) (p : Option Nat) : Prop := (l = [] ∧ p = none) ∨ (l ≠ [] ∧ ∃ e, seg h r d l p e)
abbrev ltl (l : List Nd) : Option Nat := l.getLast?.map nA
theorem opc_up {h : PH} {r d a : Nat} {o : Ow} {c c' : va_E} {l : List Nd} {p : Option Nat} (ha : h a = some (o, c)) (n1 : o ≠ (d, 9)) (n2 : ∀ x ∈ l, o ≠ nL9 r (nN x)) (hc : opc h r d l p) : opc (hu h a o c') r d l p := by
  rcases hc with e | ⟨e, w, hs⟩
  · exact Or.inl e
  · exact Or.inr ⟨e, w, seg_up ha n1 n2 hs⟩
section VO
variable {X : Cx} {G : GT} {h : PH} {k n pc nL : Nat} {lv : List (Option Value)} {rest : List Value} {cc : ByteArray} {own : String} {ret : Option FieldType} {rm : Room} {p : Option Nat}
theorem cat_vO (p : Option Nat) : (vO p).category = 1 := by cases p <;> rfl
theorem cat2_vO (p : Option Nat) : cat2 (some (vO p)) = false := by cases p <;> rfl
theorem go_astoreO (hC : CxOK X G cc nL own ret rm) {i : Nat} (hd : decode cc pc = .ok (.astore i, 2)) (hn : i < nL) (kk : Go X G h k n (pc + 2) (ls1 lv i (vO p)) rest) : Go X G h k n pc lv (vO p :: rest) := by
  cases p with
  | none => exact go_astoreN hC hd hn kk
  | some a => exact go_astore hC hd hn kk
theorem go_astore_nO (hC : CxOK X G cc nL own ret rm) {i : Fin 4} (hd : decode cc pc = .ok (.astore_n i, 1)) (hn : (i : Nat) < nL) (kk : Go X G h k n (pc + 1) (ls1 lv (i : Nat) (vO p)) rest) : Go X G h k n pc lv (vO p :: rest) := by
  cases p with
  | none => exact go_astore_nN hC hd hn kk
  | some a => exact go_astore_n hC hd hn kk
theorem go_aloadO (hC : CxOK X G cc nL own ret rm) {i : Nat} (hd : decode cc pc = .ok (.aload i, 2)) (hi : lv[i]? = some (some (vO p))) (kk : Go X G h k n (pc + 2) lv (vO p :: rest)) : Go X G h k n pc lv rest := by
  cases p with
  | none => exact go_aloadN hC hd hi kk
  | some a => exact go_aload hC hd hi kk
theorem go_aload_nO (hC : CxOK X G cc nL own ret rm) {i : Fin 4} (hd : decode cc pc = .ok (.aload_n i, 1)) (hi : lv[(i : Nat)]? = some (some (vO p))) (kk : Go X G h k n (pc + 1) lv (vO p :: rest)) : Go X G h k n pc lv rest := by
  cases p with
  | none => exact go_aload_nN hC hd hi kk
  | some a => exact go_aload_n hC hd hi kk
end VO
section RS
variable {G : GT} {h : PH} {r d mp t a n sz : Nat} {o : Ow} {M : Nat → Option Nat}
/-- the cells of these nodes -/
def Pn (r : Nat) (l : List Nd) (o : Ow) : Prop := ∃ x ∈ l, o = nL9 r (nN x)
/-- the last node of the one chain is given a next: both chains and what follows -/
theorem opc_link {l : List Nd} {z x : Nd} {p : Option Nat} (hc : opc h r d l p) (hnd : (l.map nN).Nodup) (hz : l.getLast? = some z) (hx : nN x < 64 ∧ h (nT x) = some ((d, 9), tgc (nN x)) ∧ ∃ nx, h (nA x) = some (nL9 r (nN x), ndc x nx)) (hxl : ∀ y ∈ l, nN y ≠ nN x) : (∃ nx, h (nA z) = some (nL9 r (nN z), ndc z nx)) ∧ opc (hu h (nA z) (nL9 r (nN z)) (ndc z (some (nA x)))) r d (l ++ [x]) p := by
  rcases hc with ⟨e, -⟩ | ⟨-, w, hs⟩
  · rw [e] at hz; cases hz
  · obtain ⟨⟨nz, h1⟩, h2⟩ := seg_set (e' := some (nA x)) hs hnd hz
    obtain ⟨x1, x2, nx, x3⟩ := hx
    have hne : nN x ≠ nN z := fun q => hxl z (List.mem_of_getLast? hz) q.symm
    exact ⟨⟨nz, h1⟩, Or.inr ⟨by simp, nx, seg_app x1 (hu_k x2 h1 (Ne.symm nL_t)) (hu_k x3 h1 (nL_ne hne)) h2⟩⟩
theorem opc_one {x : Nd} {p e : Option Nat} (hs : seg h r d [x] p e) : opc h r d [x] p := Or.inr ⟨by simp, e, hs⟩
theorem seg_hd {x : Nd} {l : List Nd} {p e : Option Nat} (hs : seg h r d (x :: l) p e) : ∃ nx, seg h r d [x] (some (nA x)) nx ∧ h (nA x) = some (nL9 r (nN x), ndc x nx) ∧ seg h r d l nx e ∧ nN x < 64 ∧ h (nT x) = some ((d, 9), tgc (nN x)) := by
  obtain ⟨e1, hn, ht, nx, ha, hc⟩ := hs
  exact ⟨nx, ⟨rfl, hn, ht, nx, ha, rfl⟩, ha, hc, hn, ht⟩
theorem vO_ltl {l : List Nd} {z : Nd} (h : l.getLast? = some z) : ltl l = some (nA z) := by show Option.map nA l.getLast? = _; rw [h]; rfl
theorem ltl_app (l : List Nd) (x : Nd) : ltl (l ++ [x]) = some (nA x) := by simp [ltl]
abbrev bz (N : Nat) (x : Nd) : Bool := hsh (nN x) / N % 2 == 0
abbrev bo (N : Nat) (x : Nd) : Bool := hsh (nN x) / N % 2 != 0
/-- the chain at place j is parted -/
theorem rsz_split {X : Cx} {k1 n1 T T2 N k j : Nat} {th1 th2 z2 : Int32} {full : List Nd} {ret : Option FieldType} {rm : Room}
    (hC : CxOK X G cJ4_resize 14 yJ4_resize.cls ret rm) (hN : N = 2 ^ k) (hk : k ≤ 5) (hnd : (full.map nN).Nodup)
    (kk : ∀ (h2 : PH) (pl ph : Option Nat) (z8 z13 : Option Value), fr (Pn r full) h h2 → opc h2 r d (full.filter (bz N)) pl → opc h2 r d (full.filter (bo N)) ph → Go X G h2 k1 n1 309 [some (.ref mp), some (.ref T), some (.int (nI N)), some (.int th1), some (.int z2), some (.int th2), some (.ref T2), some (.int (nI j)), z8, some (vO pl), some (vO (ltl (full.filter (bz N)))), some (vO ph), some (vO (ltl (full.filter (bo N)))), z13] []) :
    ∀ (l : List Nd) (x : Nd) (lo hi : List Nd) (h1 : PH) (pl ph : Option Nat) (z13 : Option Value), fr (Pn r full) h h1 → opc h1 r d lo pl → opc h1 r d hi ph → chn h1 r d (x :: l) (some (nA x)) → lo ++ (x :: l).filter (bz N) = full.filter (bz N) → hi ++ (x :: l).filter (bo N) = full.filter (bo N) → (lo ++ hi ++ (x :: l)).Perm full →
      Go X G h1 k1 n1 235 [some (.ref mp), some (.ref T), some (.int (nI N)), some (.int th1), some (.int z2), some (.int th2), some (.ref T2), some (.int (nI j)), some (.ref (nA x)), some (vO pl), some (vO (ltl lo)), some (vO ph), some (vO (ltl hi)), z13] [] := by
  have hp : 2 ^ k ≤ 2 ^ 5 := Nat.pow_le_pow_right (by omega) hk
  have hand : ∀ m, m < 64 → nI (hsh m) &&& nI N = nI (N * (hsh m / N % 2)) := by
    subst hN
    rcases (show k = 0 ∨ k = 1 ∨ k = 2 ∨ k = 3 ∨ k = 4 ∨ k = 5 by omega) with e | e | e | e | e | e <;> subst e <;> decide +kernel
  have hN0 : 0 < N := by rw [hN]; exact Nat.two_pow_pos k
  have step : ∀ (l : List Nd) (x : Nd) (lo hi : List Nd) (h1 : PH) (pl ph : Option Nat) (z13 : Option Value), fr (Pn r full) h h1 → opc h1 r d lo pl → opc h1 r d hi ph → chn h1 r d (x :: l) (some (nA x)) → lo ++ (x :: l).filter (bz N) = full.filter (bz N) → hi ++ (x :: l).filter (bo N) = full.filter (bo N) → (lo ++ hi ++ (x :: l)).Perm full →
      (∀ (h2 : PH) (lo' hi' : List Nd) (pl' ph' nx : Option Nat), fr (Pn r full) h h2 → opc h2 r d lo' pl' → opc h2 r d hi' ph' → chn h2 r d l nx → lo' ++ l.filter (bz N) = full.filter (bz N) → hi' ++ l.filter (bo N) = full.filter (bo N) → (lo' ++ hi' ++ l).Perm full → Go X G h2 k1 n1 301 [some (.ref mp), some (.ref T), some (.int (nI N)), some (.int th1), some (.int z2), some (.int th2), some (.ref T2), some (.int (nI j)), some (.ref (nA x)), some (vO pl'), some (vO (ltl lo')), some (vO ph'), some (vO (ltl hi')), some (vO nx)] []) →
      Go X G h1 k1 n1 235 [some (.ref mp), some (.ref T), some (.int (nI N)), some (.int th1), some (.int z2), some (.int th2), some (.ref T2), some (.int (nI j)), some (.ref (nA x)), some (vO pl), some (vO (ltl lo)), some (vO ph), some (vO (ltl hi)), z13] [] := by
    intro l x lo hi h1 pl ph z13 hf hlo hhi hch elo ehi hperm cont
    obtain ⟨nx, hx1, hx, hch2, hxn, hxt⟩ := seg_hd hch
    have hndp : ((lo ++ hi ++ (x :: l)).map nN).Nodup := (hperm.map nN).nodup_iff.mpr hnd
    have hmem : ∀ y, y ∈ lo ++ hi ++ (x :: l) → y ∈ full := fun y hy => hperm.mem_iff.mp hy
    rw [List.map_append, List.map_append, List.nodup_append, List.nodup_append] at hndp
    obtain ⟨⟨hndlo, hndhi, hd1⟩, hndl, hd2⟩ := hndp
    have hlo_x : ∀ y ∈ lo, nN y ≠ nN x := fun y hy => hd2 _ (List.mem_append_left _ (List.mem_map.mpr ⟨y, hy, rfl⟩)) _ (by simp)
    have hhi_x : ∀ y ∈ hi, nN y ≠ nN x := fun y hy => hd2 _ (List.mem_append_right _ (List.mem_map.mpr ⟨y, hy, rfl⟩)) _ (by simp)
    have hlo_hi : ∀ y ∈ lo, ∀ z ∈ hi, nN y ≠ nN z := fun y hy z hz => hd1 _ (List.mem_map.mpr ⟨y, hy, rfl⟩) _ (List.mem_map.mpr ⟨z, hz, rfl⟩)
    have hlo_l : ∀ y ∈ lo, ∀ z ∈ l, nN y ≠ nN z := fun y hy z hz => hd2 _ (List.mem_append_left _ (List.mem_map.mpr ⟨y, hy, rfl⟩)) _ (List.mem_map.mpr ⟨z, List.mem_cons_of_mem _ hz, rfl⟩)
    have hhi_l : ∀ y ∈ hi, ∀ z ∈ l, nN y ≠ nN z := fun y hy z hz => hd2 _ (List.mem_append_right _ (List.mem_map.mpr ⟨y, hy, rfl⟩)) _ (List.mem_map.mpr ⟨z, List.mem_cons_of_mem _ hz, rfl⟩)
    have p1 : (lo ++ [x] ++ hi ++ l).Perm full := by
      refine List.Perm.trans ?_ hperm
      have e1 : lo ++ [x] ++ hi ++ l = lo ++ (x :: (hi ++ l)) := by simp
      have e2 : lo ++ hi ++ (x :: l) = lo ++ (hi ++ x :: l) := by simp
      rw [e1, e2]
      exact List.Perm.append_left lo (List.perm_middle.symm)
    have p2 : (lo ++ (hi ++ [x]) ++ l).Perm full := by
      have e1 : lo ++ (hi ++ [x]) ++ l = lo ++ hi ++ (x :: l) := by simp
      rw [e1]; exact hperm
    have hb : hsh (nN x) / N % 2 = 0 ∨ hsh (nN x) / N % 2 = 1 := by omega
    refine go_aload hC dJ4_resize_235 rfl ?_
    refine go_get hC kJ23 hx 3 q1325 dJ4_resize_237 rfl (by decide) (Or.inl rfl) ?_
    refine go_astoreO hC dJ4_resize_240 (by decide) ?_
    refine go_aload hC dJ4_resize_242 rfl ?_
    refine go_get hC kJ23 hx 0 q1314 dJ4_resize_244 rfl (by decide) (Or.inl rfl) ?_
    refine go_iload_n hC dJ4_resize_247 rfl ?_
    refine go_iand hC dJ4_resize_248 ?_
    rw [hand _ hxn]
    rcases hb with b0 | b1
    · have f1 : (x :: l).filter (bz N) = x :: l.filter (bz N) := List.filter_cons_of_pos (by simp [bz, b0])
      have f2 : (x :: l).filter (bo N) = l.filter (bo N) := List.filter_cons_of_neg (by simp [bo, b0])
      rw [f1] at elo
      rw [f2] at ehi
      have elo2 : lo ++ [x] ++ l.filter (bz N) = full.filter (bz N) := by rw [← elo]; simp
      cases hz : lo.getLast? with
      | none =>
        have e : lo = [] := List.getLast?_eq_none_iff.mp hz
        subst e
        refine go_if_ne hC 278 dJ4_resize_249 (by decide) (fun z => absurd (by rw [b0]; rfl) z) (fun _ => ?_)
        refine go_aloadN hC dJ4_resize_252 rfl ?_
        refine go_ifnonnullN hC dJ4_resize_254 ?_
        refine go_aload hC dJ4_resize_257 rfl ?_
        refine go_astore hC dJ4_resize_259 (by decide) ?_
        refine go_goto hC 271 dJ4_resize_261 (by decide) ?_
        refine go_aload hC dJ4_resize_271 rfl ?_
        refine go_astore hC dJ4_resize_273 (by decide) ?_
        refine go_goto hC 301 dJ4_resize_275 (by decide) ?_
        simp only [ls1, cat2_vO, Nat.reduceBEq, Bool.and_false, Bool.false_and, Bool.and_self, cond_false, Bool.true_and, beq_self_eq_true]
        exact cont h1 [x] hi (some (nA x)) ph nx hf (opc_one hx1) hhi hch2 elo2 ehi p1
      | some z =>
        have hzm : z ∈ lo := List.mem_of_getLast? hz
        obtain ⟨⟨nz, h3⟩, h4⟩ := opc_link hlo hndlo hz ⟨hxn, hxt, nx, hx⟩ hlo_x
        rw [vO_ltl hz]
        refine go_if_ne hC 278 dJ4_resize_249 (by decide) (fun z => absurd (by rw [b0]; rfl) z) (fun _ => ?_)
        refine go_aload hC dJ4_resize_252 rfl ?_
        refine go_ifnonnull hC 264 dJ4_resize_254 (by decide) ?_
        refine go_aload hC dJ4_resize_264 rfl ?_
        refine go_aload hC dJ4_resize_266 rfl ?_
        refine go_put hC kJ23 h3 3 q1325 dJ4_resize_268 (by decide) (Nat.le_of_ble_eq_true rfl) (Or.inl rfl) rfl rfl rfl ?_
        refine go_aload hC dJ4_resize_271 rfl ?_
        refine go_astore hC dJ4_resize_273 (by decide) ?_
        refine go_goto hC 301 dJ4_resize_275 (by decide) ?_
        simp only [ls1, cat2_vO, Nat.reduceBEq, Bool.and_false, Bool.false_and, Bool.and_self, cond_false, Bool.true_and, beq_self_eq_true]
        have c9 := cont _ (lo ++ [x]) hi pl ph nx (hf.up h3 ⟨z, hmem z (by simp [hzm]), rfl⟩) h4 (opc_up h3 nL_t (fun y hy => nL_ne (hlo_hi z hzm y hy)) hhi) (seg_up h3 nL_t (fun y hy => nL_ne (hlo_l z hzm y hy)) hch2) elo2 ehi p1
        rw [ltl_app] at c9
        exact c9
    · have f1 : (x :: l).filter (bz N) = l.filter (bz N) := List.filter_cons_of_neg (by simp [bz, b1])
      have f2 : (x :: l).filter (bo N) = x :: l.filter (bo N) := List.filter_cons_of_pos (by simp [bo, b1])
      rw [f1] at elo
      rw [f2] at ehi
      have ehi2 : hi ++ [x] ++ l.filter (bo N) = full.filter (bo N) := by rw [← ehi]; simp
      cases hz : hi.getLast? with
      | none =>
        have e : hi = [] := List.getLast?_eq_none_iff.mp hz
        subst e
        refine go_if_ne hC 278 dJ4_resize_249 (by decide) (fun _ => ?_) (fun z => absurd z (by rw [b1, Nat.mul_one]; exact nI_ne0 hN0 (by omega)))
        refine go_aloadN hC dJ4_resize_278 rfl ?_
        refine go_ifnonnullN hC dJ4_resize_280 ?_
        refine go_aload hC dJ4_resize_283 rfl ?_
        refine go_astore hC dJ4_resize_285 (by decide) ?_
        refine go_goto hC 297 dJ4_resize_287 (by decide) ?_
        refine go_aload hC dJ4_resize_297 rfl ?_
        refine go_astore hC dJ4_resize_299 (by decide) ?_
        simp only [ls1, cat2_vO, Nat.reduceBEq, Bool.and_false, Bool.false_and, Bool.and_self, cond_false, Bool.true_and, beq_self_eq_true]
        exact cont h1 lo [x] pl (some (nA x)) nx hf hlo (opc_one hx1) hch2 elo ehi2 p2
      | some z =>
        have hzm : z ∈ hi := List.mem_of_getLast? hz
        obtain ⟨⟨nz, h3⟩, h4⟩ := opc_link hhi hndhi hz ⟨hxn, hxt, nx, hx⟩ hhi_x
        rw [vO_ltl hz]
        refine go_if_ne hC 278 dJ4_resize_249 (by decide) (fun _ => ?_) (fun z => absurd z (by rw [b1, Nat.mul_one]; exact nI_ne0 hN0 (by omega)))
        refine go_aload hC dJ4_resize_278 rfl ?_
        refine go_ifnonnull hC 290 dJ4_resize_280 (by decide) ?_
        refine go_aload hC dJ4_resize_290 rfl ?_
        refine go_aload hC dJ4_resize_292 rfl ?_
        refine go_put hC kJ23 h3 3 q1325 dJ4_resize_294 (by decide) (Nat.le_of_ble_eq_true rfl) (Or.inl rfl) rfl rfl rfl ?_
        refine go_aload hC dJ4_resize_297 rfl ?_
        refine go_astore hC dJ4_resize_299 (by decide) ?_
        simp only [ls1, cat2_vO, Nat.reduceBEq, Bool.and_false, Bool.false_and, Bool.and_self, cond_false, Bool.true_and, beq_self_eq_true]
        have c9 := cont _ lo (hi ++ [x]) pl ph nx (hf.up h3 ⟨z, hmem z (by simp [hzm]), rfl⟩) (opc_up h3 nL_t (fun y hy => nL_ne (fun q => hlo_hi y hy z hzm q.symm)) hlo) h4 (seg_up h3 nL_t (fun y hy => nL_ne (hhi_l z hzm y hy)) hch2) elo ehi2 p2
        rw [ltl_app] at c9
        exact c9
  intro l
  induction l with
  | nil =>
    intro x lo hi h1 pl ph z13 hf hlo hhi hch elo ehi hperm
    refine step [] x lo hi h1 pl ph z13 hf hlo hhi hch elo ehi hperm (fun h2 lo' hi' pl' ph' nx q1 q2 q3 q4 q5 q6 q7 => ?_)
    cases q4
    have e5 : lo' = full.filter (bz N) := by rw [← q5]; simp
    have e6 : hi' = full.filter (bo N) := by rw [← q6]; simp
    subst e5
    subst e6
    refine go_aloadN hC dJ4_resize_301 rfl ?_
    refine go_dup hC dJ4_resize_303 rfl ?_
    refine go_astoreN hC dJ4_resize_304 (by decide) ?_
    refine go_ifnonnullN hC dJ4_resize_306 ?_
    simp only [ls1, cat2_vO, Nat.reduceBEq, Bool.and_false, Bool.false_and, Bool.and_self, cond_false, Bool.true_and, beq_self_eq_true]
    exact kk h2 pl' ph' _ _ q1 q2 q3
  | cons y l ih =>
    intro x lo hi h1 pl ph z13 hf hlo hhi hch elo ehi hperm
    refine step (y :: l) x lo hi h1 pl ph z13 hf hlo hhi hch elo ehi hperm (fun h2 lo' hi' pl' ph' nx q1 q2 q3 q4 q5 q6 q7 => ?_)
    have hnx : nx = some (nA y) := q4.1
    subst hnx
    refine go_aload hC dJ4_resize_301 rfl ?_
    refine go_dup hC dJ4_resize_303 rfl ?_
    refine go_astore hC dJ4_resize_304 (by decide) ?_
    refine go_ifnonnull hC 235 dJ4_resize_306 (by decide) ?_
    simp only [ls1, cat2_vO, Nat.reduceBEq, Bool.and_false, Bool.false_and, Bool.and_self, cond_false, Bool.true_and, beq_self_eq_true]
    exact ih y lo' hi' h2 pl' ph' _ q1 q2 q3 q4 q5 q6 q7
theorem find_filter {p q : Nd → Bool} : ∀ {l : List Nd}, (∀ x ∈ l, q x = true → p x = true) → (l.filter p).find? q = l.find? q
  | [], _ => rfl
  | x :: l, w => by
    have ih := find_filter (p := p) (q := q) (l := l) (fun y hy => w y (List.mem_cons_of_mem _ hy))
    by_cases hp : p x = true
    · rw [List.filter_cons_of_pos hp, List.find?_cons, List.find?_cons, ih]
    · have hq : ¬ q x = true := fun z => hp (w x List.mem_cons_self z)
      rw [List.filter_cons_of_neg hp, ih, List.find?_cons_of_neg hq]
/-- all but place j, while the table grows from 2 ^ k places -/
def RX (G : GT) (h : PH) (r d mp k T T2 : Nat) (bk : Nat → List Nd) (f : Nat → Option Nat) (sz : Nat) (mc : Int32) (lf : UInt32) (j : Nat) (h1 : PH) (f1 f2 : Nat → Option Nat) : Prop :=
  h1 mp = some ((r, 2), ob 8 [.null, .null, .ref T2, .null, .int (nI sz), .int mc, .int (nI (12 * 2 ^ (k + 1 - 4))), .float lf]) ∧ h1 T = some ((r, 8), oa G 5 (2 ^ k) f1) ∧ h1 T2 = some ((r, 8), oa G 5 (2 ^ (k + 1)) f2) ∧ (∀ i, j < i → f1 i = f i) ∧ (∀ i, j < i → i < 2 ^ k → chn h1 r d (bk i) (f i) ∧ f2 i = none ∧ f2 (i + 2 ^ k) = none) ∧
  (∀ i, i < j → chn h1 r d ((bk i).filter (bz (2 ^ k))) (f2 i) ∧ chn h1 r d ((bk i).filter (bo (2 ^ k))) (f2 (i + 2 ^ k))) ∧ fr (Pm r) h h1
variable {k T T2 j : Nat} {bk : Nat → List Nd} {f f1 f2 : Nat → Option Nat} {mc : Int32} {lf : UInt32} {h1 : PH}
theorem RX.nodes {h2 : PH} (hX : RX G h r d mp k T T2 bk f sz mc lf j h1 f1 f2) (hj : j < 2 ^ k) (hb : ∀ i, i < 2 ^ k → ∀ x ∈ bk i, hsh (nN x) % 2 ^ k = i) (z : fr (Pn r (bk j)) h1 h2) : RX G h r d mp k T T2 bk f sz mc lf j h2 f1 f2 := by
  obtain ⟨g1, g2, g3, g4, g5, g6, g7⟩ := hX
  have n2 : ∀ i, 17 > i → ¬ Pn r (bk j) (r, i) := fun i hi ⟨x, _, e⟩ => by have : i = 17 + 2 * nN x := congrArg Prod.snd e; omega
  have n9 : ¬ Pn r (bk j) (d, 9) := fun ⟨x, _, e⟩ => nL_t e.symm
  have nn : ∀ i, i < 2 ^ k → i ≠ j → ∀ x ∈ bk i, ¬ Pn r (bk j) (nL9 r (nN x)) := fun i hi hij x hx ⟨y, hy, e⟩ => by
    have e2 : nN x = nN y := by have : 17 + 2 * nN x = 17 + 2 * nN y := congrArg Prod.snd e; omega
    have e3 := hb i hi x hx
    rw [e2, hb j hj y hy] at e3
    exact hij e3.symm
  refine ⟨z _ _ _ g1 (n2 2 (by omega)), z _ _ _ g2 (n2 8 (by omega)), z _ _ _ g3 (n2 8 (by omega)), g4, fun i h1 h2 => ⟨seg_fr z n9 (nn i h2 (by omega)) (g5 i h1 h2).1, (g5 i h1 h2).2⟩, fun i hi => ⟨seg_fr z n9 (fun x hx => nn i (by omega) (by omega) x (List.mem_filter.mp hx).1) (g6 i hi).1, seg_fr z n9 (fun x hx => nn i (by omega) (by omega) x (List.mem_filter.mp hx).1) (g6 i hi).2⟩, g7.tr (z.mono (fun o ⟨x, _, e⟩ => by rw [e]; exact Pm_n r _))⟩
theorem RX.put (hX : RX G h r d mp k T T2 bk f sz mc lf j h1 f1 f2) (hj : j < 2 ^ k) (hT : T ≠ T2) (i : Nat) (hi : i = j ∨ i = j + 2 ^ k) (v : Option Nat) : RX G h r d mp k T T2 bk f sz mc lf j (hu h1 T2 (r, 8) (oa G 5 (2 ^ (k + 1)) (va_up f2 i v))) f1 (va_up f2 i v) := by
  obtain ⟨g1, g2, g3, g4, g5, g6, g7⟩ := hX
  have n9 : ((r, 8) : Ow) ≠ (d, 9) := ow_nd (by decide)
  have nn : ∀ (x : Nd), ((r, 8) : Ow) ≠ nL9 r (nN x) := fun x => ow_nd (by omega)
  have e : ∀ q, q ≠ i → va_up f2 i v q = f2 q := fun q hq => if_neg hq
  refine ⟨hu_k g1 g3 (ow_ne (by decide)), by rw [hu_ne hT]; exact g2, hu_eq, g4, fun q h1 h2 => ⟨seg_up g3 n9 (fun x _ => nn x) (g5 q h1 h2).1, ?_, ?_⟩, fun q hq => ⟨?_, ?_⟩, g7.up g3 ⟨rfl, Or.inr (Or.inl rfl)⟩⟩
  · rw [e q (by omega)]; exact (g5 q h1 h2).2.1
  · rw [e _ (by omega)]; exact (g5 q h1 h2).2.2
  · rw [e q (by omega)]; exact seg_up g3 n9 (fun x _ => nn x) (g6 q hq).1
  · rw [e _ (by omega)]; exact seg_up g3 n9 (fun x _ => nn x) (g6 q hq).2
theorem RX.old (hX : RX G h r d mp k T T2 bk f sz mc lf j h1 f1 f2) (hT : T ≠ T2) : RX G h r d mp k T T2 bk f sz mc lf j (hu h1 T (r, 8) (oa G 5 (2 ^ k) (va_up f1 j none))) (va_up f1 j none) f2 := by
  obtain ⟨g1, g2, g3, g4, g5, g6, g7⟩ := hX
  have n9 : ((r, 8) : Ow) ≠ (d, 9) := ow_nd (by decide)
  have nn : ∀ (x : Nd), ((r, 8) : Ow) ≠ nL9 r (nN x) := fun x => ow_nd (by omega)
  refine ⟨hu_k g1 g2 (ow_ne (by decide)), hu_eq, by rw [hu_ne (Ne.symm hT)]; exact g3, fun i hi => ?_, fun q h1 h2 => ⟨seg_up g2 n9 (fun x _ => nn x) (g5 q h1 h2).1, (g5 q h1 h2).2⟩, fun q hq => ⟨seg_up g2 n9 (fun x _ => nn x) (g6 q hq).1, seg_up g2 n9 (fun x _ => nn x) (g6 q hq).2⟩, g7.up g2 ⟨rfl, Or.inr (Or.inl rfl)⟩⟩
  rw [show va_up f1 j none i = f1 i from if_neg (by omega)]; exact g4 i hi
/-- a chain that is built is closed -/
theorem opc_close {l : List Nd} {z : Nd} {p : Option Nat} (hc : opc h r d l p) (hnd : (l.map nN).Nodup) (hz : l.getLast? = some z) : ∃ (q nx : Option Nat) (a : Nat), p = some a ∧ (∃ x nx, h a = some (nL9 r (nN x), ndc x nx)) ∧ h (nA z) = some (nL9 r (nN z), ndc z nx) ∧ chn (hu h (nA z) (nL9 r (nN z)) (ndc z none)) r d l p := by
  rcases hc with ⟨e, -⟩ | ⟨-, w, hs⟩
  · rw [e] at hz; cases hz
  · obtain ⟨⟨nz, g1⟩, g2⟩ := seg_set (e' := none) hs hnd hz
    cases l with
    | nil => cases hz
    | cons x l =>
      obtain ⟨e1, hn, ht, nx, ha, hc⟩ := hs
      exact ⟨none, nz, nA x, e1, ⟨x, nx, ha⟩, g1, g2⟩
end RS
