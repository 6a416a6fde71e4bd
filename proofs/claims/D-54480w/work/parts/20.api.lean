/-! WHAT THE CALLS DO: on a state, the saved states, the text; a call answers (what it throws, a value, the state behind it) -/
set_option maxRecDepth 100000
abbrev AS : Type := St × List St × List Nat
abbrev Rs : Type := Nat × Int32 × AS
def iN (x : Int32) : Nat := x.toInt.toNat
theorem iN_nI {k : Nat} (h : k < 2 ^ 31) : iN (nI k) = k := by unfold iN; rw [nI_toInt h]; rfl
abbrev inB (a x b : Int32) : Bool := decide (a ≤ x ∧ x ≤ b)
theorem inB_k {x : Int32} {a b : Nat} (hb : b < 2 ^ 31) (h : inB (nI a) x (nI b) = true) (ha : a < 2 ^ 31) : ∃ k, k ≤ b ∧ a ≤ k ∧ x = nI k ∧ iN x = k := by
  obtain ⟨h1, h2⟩ := of_decide_eq_true h
  rw [Int32.le_iff_toInt_le, nI_toInt ha] at h1
  rw [Int32.le_iff_toInt_le, nI_toInt hb] at h2
  have e : x = nI (iN x) := Int32.toInt_inj.mp (by unfold iN; rw [nI_toInt (by omega)]; omega)
  exact ⟨iN x, by unfold iN; omega, by unfold iN; omega, e, rfl⟩
theorem inB_0 {x : Int32} {b : Nat} (hb : b < 2 ^ 31) (h : inB 0 x (nI b) = true) : ∃ k, k ≤ b ∧ x = nI k ∧ iN x = k := by
  obtain ⟨k, h1, -, h2, h3⟩ := inB_k (a := 0) hb (by rw [nI_0]; exact h) (by omega)
  exact ⟨k, h1, h2, h3⟩
/-- the saved states with this one -/
def svd (a : AS) : List St := (if a.2.1.length = 6 then a.2.1.drop 1 else a.2.1) ++ [a.1]
def puS (t : St) (d : Nat) (v : Int32) : St := (sN t, sJ t, sW t, sC t + 1, sI t ++ [(sC t, v, d)])
def mayP (t : St) (d : Nat) (v : Int32) : Bool := decide ((sI t).length ≠ 40 ∧ sC t ≠ 1000 ∧ ld (sI t) d + v ≤ sN t 1 ∧ imb (sI t ++ [(sC t, v, d)]) (sW t) ≤ sN t 0)
def oPut (a : AS) (d v : Int32) : Rs := if inB 0 d (nI 11) = false then (1, 0, a) else if inB 1 v (nI 20) = false then (2, 0, a) else
  if mayP a.1 (iN d) v = true then (0, nI (sC a.1), (puS a.1 (iN d) v, svd a, a.2.2)) else (3, 0, a)
def mvS (t : St) (i d : Nat) : St := (sN t, sJ t, sW t, sC t, (sI t).modify i (fun y => (y.1, y.2.1, d)))
def drw (t : St) (i : Nat) : Nat := match (sI t)[i]? with
  | none => 0
  | some y => y.2.2
def mayM (t : St) (i d : Nat) : Bool := decide (sJ t (drw t i) = false ∧ sJ t d = false ∧ ld (sI (mvS t i d)) d ≤ sN t 1 ∧ imb (sI (mvS t i d)) (sW t) ≤ sN t 0)
def oMove (a : AS) (x d : Int32) : Rs := match pos (sI a.1) x with
  | none => (1, 0, a)
  | some i => if inB 0 d (nI 11) = false then (1, 0, a) else if mayM a.1 i (iN d) = true then (0, nI (drw a.1 i), (mvS a.1 i (iN d), svd a, a.2.2)) else (2, 0, a)
def oPick (a : AS) (x : Int32) : Rs := if reason a.1 x = 0 then (0, stp a.1 x, (pck a.1 x, svd a, a.2.2)) else (if reason a.1 x = 1 then 1 else 2, 0, a)
def oTurn (a : AS) (d : Int32) : Rs := if inB 0 d (nI 11) = false then (1, 0, a) else if way a.1 (iN d) = 99 then (2, 0, a) else (0, way a.1 (iN d), (trn a.1 (iN d), svd a, a.2.2))
def jmS (t : St) (d : Nat) (b : Bool) : St := (sN t, fun q => if q = d then b else sJ t q, sW t, sC t, sI t)
def oJam (a : AS) (d : Int32) (b : Bool) : Rs := if inB 0 d (nI 11) = false then (1, 0, a) else (0, bI (sJ a.1 (iN d)), (jmS a.1 (iN d) b, svd a, a.2.2))
def vOk (s : Nat) (v : Int32) : Bool := if s = 0 then inB 0 v (nI 300) else if s = 1 then inB (nI 10) v (nI 100) else inB 0 v (nI 2)
def stS (t : St) (s : Nat) (v : Int32) : St := (fun q => if q = s then v else sN t q, sJ t, sW t, sC t, sI t)
def oSet (a : AS) (s v : Int32) : Rs := if inB 0 s (nI 2) = false then (1, 0, a) else if vOk (iN s) v = false then (2, 0, a) else
  if iN s = 1 ∧ v < top12 (ld (sI a.1)) then (3, 0, a) else (0, sN a.1 (iN s), (stS a.1 (iN s) v, svd a, a.2.2))
def oApp (a : AS) (x : Int32) : Rs := if inB (nI 33) x (nI 126) = false then (1, 0, a) else if a.2.2.length = 60 then (2, 0, a) else (0, nI (a.2.2.length + 1), (a.1, a.2.1, a.2.2 ++ [iN x]))
def oClr (a : AS) : Rs := (0, nI a.2.2.length, (a.1, a.2.1, []))
def oErr (a : AS) : Rs := (0, nI (rdA a.2.2).2.1, a)
def oPall (a : AS) : Rs := if (rdA a.2.2).1 = false then (1, 0, a) else (0, nI (pbat a.1 (rdA a.2.2).2.2 (sN a.1 2)).1, ((pbat a.1 (rdA a.2.2).2.2 (sN a.1 2)).2, svd a, []))
def oUndo (a : AS) : Rs := match a.2.1.getLast? with
  | none => (1, 0, a)
  | some u => (0, nI (a.2.1.length - 1), (u, a.2.1.dropLast, a.2.2))
def oDrw (a : AS) (d w : Int32) : Rs := if inB 0 d (nI 11) = false then (1, 0, a) else if inB 0 w (nI 5) = false then (2, 0, a) else (0, tel a.1 (iN d) (iN w), a)
def itw (t : St) (x w : Int32) : Int32 := match itm (sI t) x with
  | none => -1
  | some y => if w = 0 then y.2.1 else nI y.2.2
def oItm (a : AS) (x w : Int32) : Rs := if inB 0 x (nI (sC a.1) - 1) = false then (1, 0, a) else if inB 0 w 1 = false then (2, 0, a) else (0, itw a.1 x w, a)
def oCnt (a : AS) (w : Int32) : Rs := if inB 0 w (nI 10) = false then (1, 0, a) else (0, cnt a.1 a.2.1.length (iN w), a)
def oStg (a : AS) (s : Int32) : Rs := if inB 0 s (nI 2) = false then (1, 0, a) else (0, sN a.1 (iN s), a)
def oRef (a : AS) (x : Int32) : Rs := (0, reason a.1 x, a)
def oWay (a : AS) (d : Int32) : Rs := if inB 0 d (nI 11) = false then (1, 0, a) else (0, way a.1 (iN d), a)
def oIfp (a : AS) (d v : Int32) : Rs := if inB 0 d (nI 11) = false then (1, 0, a) else if inB 1 v (nI 20) = false then (2, 0, a) else (0, gw (sI a.1) (iN d) v, a)
def oBst (a : AS) (v : Int32) : Rs := if inB 1 v (nI 20) = false then (1, 0, a) else (0, posI (bst a.1 v), a)
/-- what would be picked by a rule: what is told of it -/
def pkT (t : St) (q : Nat × St) (w : Nat) : Int32 := if w = 0 then nI q.1 else if w = 1 then sN q.2 4 - sN t 4 else if w = 2 then nI (sW q.2) else top12 (imb (sI q.2))
def pkd (t : St) (tx : List Nat) (r : Int32) (w : Nat) : Int32 := if (rdA tx).1 = false then -1 else pkT t (pbat t (rdA tx).2.2 r) w
def oIpk (a : AS) (r w : Int32) : Rs := if inB 0 r (nI 2) = false then (1, 0, a) else if inB 0 w (nI 3) = false then (1, 0, a) else (0, pkd a.1 a.2.2 r (iN w), a)
def hi64 (h : Int64) (v : Int64) : Int64 := 31 * h + v
def hi (h : Int64) (v : Int32) : Int64 := hi64 h v.toInt64
def dg1 (t : St) (k : Nat) : Int64 := (List.range' 0 11).foldl (fun h w => hi h (cnt t k w)) 2963
def dg2 (t : St) (h : Int64) : Int64 := (List.range' 0 3).foldl (fun h w => hi h (sN t w)) h
def dgd (t : St) (h : Int64) (d : Nat) : Int64 := hi (hi ((List.range' 0 6).foldl (fun h w => hi h (tel t d w)) h) (way t d)) (gw (sI t) d (nI 5))
def dg3 (t : St) (h : Int64) : Int64 := (List.range' 0 12).foldl (dgd t) h
def dgi (t : St) (h : Int64) (y : It) : Int64 := hi (hi (hi (hi h (nI y.1)) y.2.1) (nI y.2.2)) (reason t (nI y.1))
def dg4 (t : St) (h : Int64) : Int64 := (sI t).foldl (dgi t) h
def dg6 (t : St) (tx : List Nat) (h : Int64) : Int64 := (List.range' 0 12).foldl (fun h k => hi h (pkd t tx (nI (k / 4)) (k % 4))) h
/-- Double.doubleToLongBits -/
def dbits (x : UInt64) : Int64 := if Op.cmpValue (FP.dcmp x x) .l = 0 then x.toInt64 else 9221120237041090560
def dg9 (tx : List Nat) (h : Int64) : Int64 := tx.foldl (fun h c => hi h (nI c)) h
def oDig (a : AS) : Int64 := dg9 a.2.2 (hi (hi64 (dg6 a.1 a.2.2 (hi (dg4 a.1 (dg3 a.1 (dg2 a.1 (dg1 a.1 a.2.1.length)))) (posI (bst a.1 (nI 7))))) (dbits (evn (sI a.1)))) (nI a.2.2.length))
/-! states stay well -/
def WFA (c : Nat) (a : AS) : Prop := WF c a.1 ∧ (∀ u ∈ a.2.1, WF c u) ∧ a.2.1.length ≤ 6 ∧ TX a.2.2
theorem WFA.mono {c c' : Nat} {a : AS} (h : WFA c a) (hc : c ≤ c') : WFA c' a := ⟨h.1.mono hc, fun u hu => (h.2.1 u hu).mono hc, h.2.2⟩
theorem svd_len {a : AS} (h : a.2.1.length ≤ 6) : (svd a).length ≤ 6 ∧ 1 ≤ (svd a).length := by
  unfold svd
  rw [List.length_append, List.length_singleton]
  split
  · rw [List.length_drop]; omega
  · omega
theorem WF_svd {c : Nat} {a : AS} (h : WFA c a) : ∀ u ∈ svd a, WF c u := by
  intro u hu
  unfold svd at hu
  rcases List.mem_append.mp hu with q | q
  · split at q
    · exact h.2.1 u (List.mem_of_mem_drop q)
    · exact h.2.1 u q
  · rw [List.mem_singleton.mp q]; exact h.1
theorem WFA.sv {c c' : Nat} {a : AS} {t : St} (h : WFA c a) (hc : c ≤ c') (ht : WF c' t) : WFA c' (t, svd a, a.2.2) := ⟨ht, fun u hu => (WF_svd h u hu).mono hc, (svd_len h.2.2.1).1, h.2.2.2⟩
theorem WF_puS {c : Nat} {t : St} (h : WF c t) {d k : Nat} (hd : d < 12) (hk : k ≤ 20) (hn : (sI t).length ≠ 40) : WF (c + 1) (puS t d (nI k)) := by
  have hl := h.n
  refine ⟨h.1, Nat.add_le_add_right h.2.1 1, ?_, fun x hx => ?_, ?_, h.2.2.2.2.2⟩
  · show (sI t ++ [_]).length ≤ 40; rw [List.length_append, List.length_singleton]; omega
  · rcases List.mem_append.mp hx with q | q
    · obtain ⟨⟨h1, h2⟩, h3⟩ := h.2.2.2.1 x q
      exact ⟨⟨Nat.lt_succ_of_lt h1, h2⟩, h3⟩
    · rw [List.mem_singleton.mp q]; exact ⟨⟨Nat.lt_succ_self _, hd⟩, k, hk, rfl⟩
  · show (List.map (fun (x : It) => x.1) (sI t ++ [_])).Nodup
    rw [List.map_append, List.map_singleton, List.nodup_append]
    refine ⟨h.2.2.2.2.1, by simp, fun a ha b hb e => ?_⟩
    obtain ⟨x, hx, ex⟩ := List.mem_map.mp ha
    have := (h.2.2.2.1 x hx).1.1
    rw [List.mem_singleton.mp hb] at e
    have e2 : x.1 = sC t := ex.trans e
    omega
theorem map_mod (l : List It) (i d : Nat) : (l.modify i (fun y => (y.1, y.2.1, d))).map (fun x => x.1) = l.map (fun x => x.1) := by
  refine List.ext_getElem? (fun j => ?_)
  rw [List.getElem?_map, List.getElem?_map, List.getElem?_modify]
  cases l[j]? with
  | none => rfl
  | some y => by_cases q : i = j <;> simp [q]
theorem mem_mod {l : List It} {i d : Nat} {x : It} (h : x ∈ l.modify i (fun y => (y.1, y.2.1, d))) : x ∈ l ∨ ∃ y ∈ l, x = (y.1, y.2.1, d) := by
  obtain ⟨j, hj⟩ := List.getElem?_of_mem h
  rw [List.getElem?_modify] at hj
  cases e : l[j]? with
  | none => rw [e] at hj; cases hj
  | some y =>
    rw [e] at hj
    by_cases q : i = j
    · simp [q] at hj; exact Or.inr ⟨y, List.mem_of_getElem? e, hj.symm⟩
    · simp [q] at hj; rw [← hj]; exact Or.inl (List.mem_of_getElem? e)
theorem WF_mvS {c : Nat} {t : St} (h : WF c t) (i : Nat) {d : Nat} (hd : d < 12) : WF c (mvS t i d) := by
  refine ⟨h.1, h.2.1, ?_, fun x hx => ?_, ?_, h.2.2.2.2.2⟩
  · show (List.modify _ _ _).length ≤ 40; rw [List.length_modify]; exact h.n
  · rcases mem_mod hx with q | ⟨y, hy, e⟩
    · exact h.2.2.2.1 x q
    · obtain ⟨⟨h1, h2⟩, h3⟩ := h.2.2.2.1 y hy
      rw [e]; exact ⟨⟨h1, hd⟩, h3⟩
  · show (List.map _ (List.modify _ _ _)).Nodup; rw [map_mod]; exact h.2.2.2.2.1
theorem WF_stS {c : Nat} {t : St} (h : WF c t) {s : Nat} {v : Int32} (hv : vOk s v = true) : WF c (stS t s v) := by
  refine ⟨h.1, h.2.1, h.2.2.1, h.2.2.2.1, h.2.2.2.2.1, ?_⟩
  show (if 2 = s then v else sN t 2) = 0 ∨ (if 2 = s then v else sN t 2) = 1 ∨ (if 2 = s then v else sN t 2) = 2
  by_cases q : 2 = s
  · subst q
    rw [if_pos rfl]
    obtain ⟨k, h1, h2, -⟩ := inB_0 (b := 2) (by omega) hv
    rcases (show k = 0 ∨ k = 1 ∨ k = 2 by omega) with z | z | z <;> subst z
    · exact Or.inl h2
    · exact Or.inr (Or.inl h2)
    · exact Or.inr (Or.inr h2)
  · rw [if_neg q]; exact h.2.2.2.2.2
theorem WF_pnr {c : Nat} (xs : List Int32) : ∀ (n : Nat) {t : St}, WF c t → WF c (pnr n t xs).2
  | 0, t, h => h
  | n + 1, t, h => by
    unfold pnr
    cases nst t xs with
    | none => exact h
    | some k => exact WF_pnr xs n (WF_pck h _)
theorem WF_pbat {c : Nat} {t : St} (h : WF c t) (bs : List Nat) (r : Int32) : WF c (pbat t bs r).2 := by
  unfold pbat
  split
  · exact WF_pnr _ _ h
  · split
    · exact WF_pby h
    · exact WF_pby h
theorem TX_nil : TX [] := ⟨Nat.zero_le _, fun x hx => by cases hx⟩
theorem WA_put {c : Nat} {a : AS} (h : WFA c a) (d v : Int32) : WFA (c + 1) (oPut a d v).2.2 := by
  unfold oPut
  cases q1 : inB 0 d (nI 11) with
  | false => rw [if_pos rfl]; exact h.mono (Nat.le_succ _)
  | true =>
    cases q2 : inB 1 v (nI 20) with
    | false => rw [if_neg (by decide), if_pos rfl]; exact h.mono (Nat.le_succ _)
    | true =>
      rw [if_neg (by decide), if_neg (by decide)]
      by_cases q3 : mayP a.1 (iN d) v = true
      · rw [if_pos q3]
        obtain ⟨k, k1, k2, k3⟩ := inB_0 (b := 11) (by omega) q1
        obtain ⟨j, j1, j2, j3, j4⟩ := inB_k (a := 1) (b := 20) (by omega) q2 (by omega)
        refine h.sv (Nat.le_succ _) ?_
        rw [k3, j3]
        exact WF_puS h.1 (by omega) j1 (of_decide_eq_true q3).1
      · rw [if_neg q3]; exact h.mono (Nat.le_succ _)
theorem WA_move {c : Nat} {a : AS} (h : WFA c a) (x d : Int32) : WFA (c + 1) (oMove a x d).2.2 := by
  unfold oMove
  cases pos (sI a.1) x with
  | none => exact h.mono (Nat.le_succ _)
  | some i =>
    dsimp only
    cases q1 : inB 0 d (nI 11) with
    | false => rw [if_pos rfl]; exact h.mono (Nat.le_succ _)
    | true =>
      rw [if_neg (by decide)]
      obtain ⟨k, k1, k2, k3⟩ := inB_0 (b := 11) (by omega) q1
      split
      · exact h.sv (Nat.le_succ _) ((WF_mvS h.1 i (by omega)).mono (Nat.le_succ _))
      · exact h.mono (Nat.le_succ _)
theorem WA_pick {c : Nat} {a : AS} (h : WFA c a) (x : Int32) : WFA (c + 1) (oPick a x).2.2 := by
  unfold oPick
  split
  · exact h.sv (Nat.le_succ _) ((WF_pck h.1 x).mono (Nat.le_succ _))
  · exact h.mono (Nat.le_succ _)
theorem WA_turn {c : Nat} {a : AS} (h : WFA c a) (d : Int32) : WFA (c + 1) (oTurn a d).2.2 := by
  unfold oTurn
  cases q1 : inB 0 d (nI 11) with
  | false => rw [if_pos rfl]; exact h.mono (Nat.le_succ _)
  | true =>
    rw [if_neg (by decide)]
    obtain ⟨k, k1, k2, k3⟩ := inB_0 (b := 11) (by omega) q1
    split
    · exact h.mono (Nat.le_succ _)
    · exact h.sv (Nat.le_succ _) ((WF_trn h.1 (by omega)).mono (Nat.le_succ _))
theorem WA_jam {c : Nat} {a : AS} (h : WFA c a) (d : Int32) (b : Bool) : WFA (c + 1) (oJam a d b).2.2 := by
  unfold oJam
  split
  · exact h.mono (Nat.le_succ _)
  · exact h.sv (Nat.le_succ _) (WF.mono ⟨h.1.1, h.1.2.1, h.1.2.2.1, h.1.2.2.2.1, h.1.2.2.2.2.1, h.1.2.2.2.2.2⟩ (Nat.le_succ _))
theorem WA_set {c : Nat} {a : AS} (h : WFA c a) (s v : Int32) : WFA (c + 1) (oSet a s v).2.2 := by
  unfold oSet
  split
  · exact h.mono (Nat.le_succ _)
  · cases q : vOk (iN s) v with
    | false => rw [if_pos rfl]; exact h.mono (Nat.le_succ _)
    | true =>
      rw [if_neg (by decide)]
      split
      · exact h.mono (Nat.le_succ _)
      · exact h.sv (Nat.le_succ _) ((WF_stS h.1 q).mono (Nat.le_succ _))
theorem WA_app {c : Nat} {a : AS} (h : WFA c a) (x : Int32) : WFA (c + 1) (oApp a x).2.2 := by
  unfold oApp
  cases q : inB (nI 33) x (nI 126) with
  | false => rw [if_pos rfl]; exact h.mono (Nat.le_succ _)
  | true =>
    rw [if_neg (by decide)]
    obtain ⟨k, k1, k2, k3, k4⟩ := inB_k (by omega) q (by omega)
    split
    · exact h.mono (Nat.le_succ _)
    · rename_i hl
      obtain ⟨h1, h2, h3, h4, h5⟩ := h
      refine ⟨h1.mono (Nat.le_succ _), fun u hu => (h2 u hu).mono (Nat.le_succ _), h3, ?_, fun y hy => ?_⟩
      · show (_ ++ [_]).length ≤ 60; rw [List.length_append, List.length_singleton]; omega
      · rcases List.mem_append.mp hy with z | z
        · exact h5 y z
        · rw [List.mem_singleton.mp z, k4]; exact ⟨k2, k1⟩
theorem WA_clr {c : Nat} {a : AS} (h : WFA c a) : WFA (c + 1) (oClr a).2.2 := ⟨h.1.mono (Nat.le_succ _), fun u hu => (h.2.1 u hu).mono (Nat.le_succ _), h.2.2.1, TX_nil⟩
theorem WA_pall {c : Nat} {a : AS} (h : WFA c a) : WFA (c + 1) (oPall a).2.2 := by
  unfold oPall
  split
  · exact h.mono (Nat.le_succ _)
  · have z := h.sv (Nat.le_succ _) ((WF_pbat h.1 (rdA a.2.2).2.2 (sN a.1 2)).mono (Nat.le_succ _))
    exact ⟨z.1, z.2.1, z.2.2.1, TX_nil⟩
theorem WA_undo {c : Nat} {a : AS} (h : WFA c a) : WFA (c + 1) (oUndo a).2.2 := by
  unfold oUndo
  cases q : a.2.1.getLast? with
  | none => exact h.mono (Nat.le_succ _)
  | some u =>
    have hu : u ∈ a.2.1 := List.mem_of_getLast? q
    refine ⟨(h.2.1 u hu).mono (Nat.le_succ _), fun w hw => (h.2.1 w ((List.dropLast_sublist _).subset hw)).mono (Nat.le_succ _), ?_, h.2.2.2⟩
    show a.2.1.dropLast.length ≤ 6
    rw [List.length_dropLast]
    have := h.2.2.1
    omega
