/-! ORDERS of a batch's places: the next one, and that there are finitely many -/
set_option maxRecDepth 100000
def swp (p : List Nat) (a b : Nat) : List Nat := (p.set a (p.getD b 0)).set b (p.getD a 0)
def nxF (p : List Nat) : Nat → Option Nat
  | 0 => none
  | i + 1 => if p.getD (i + 1) 0 < p.getD i 0 then nxF p i else some i
def nxW (p : List Nat) (x : Nat) : Nat → Nat
  | 0 => 0
  | k + 1 => if p.getD (k + 1) 0 < x then nxW p x k else k + 1
def rvs : Nat → List Nat → Nat → Nat → List Nat
  | 0, p, _, _ => p
  | n + 1, p, a, b => if a < b then rvs n (swp p a b) (a + 1) (b - 1) else p
def nxt (p : List Nat) : Option (List Nat) := match nxF p (p.length - 1) with
  | none => none
  | some i => some (rvs p.length (swp p i (nxW p (p.getD i 0) (p.length - 1))) (i + 1) (p.length - 1))
/-- an order of n places -/
def PO (n : Nat) (p : List Nat) : Prop := p.length = n ∧ (∀ i, i < n → p.getD i 0 < n) ∧ ∀ i j, i < n → j < n → p.getD i 0 = p.getD j 0 → i = j
theorem swp_len (p : List Nat) (a b : Nat) : (swp p a b).length = p.length := by unfold swp; rw [List.length_set, List.length_set]
theorem getD_set (l : List Nat) (i j v : Nat) (hi : i < l.length) : (l.set i v).getD j 0 = if j = i then v else l.getD j 0 := by
  rw [List.getD_eq_getElem?_getD, List.getD_eq_getElem?_getD, List.getElem?_set]
  by_cases q : i = j
  · subst q; rw [if_pos rfl, if_pos hi, if_pos rfl]; rfl
  · rw [if_neg q, if_neg (Ne.symm q)]
theorem swp_get (p : List Nat) {a b : Nat} (ha : a < p.length) (hb : b < p.length) (j : Nat) : (swp p a b).getD j 0 = p.getD (if j = b then a else if j = a then b else j) 0 := by
  unfold swp
  rw [getD_set _ _ _ _ (by rw [List.length_set]; exact hb), getD_set _ _ _ _ ha]
  by_cases q : j = b
  · rw [if_pos q, if_pos q]
  · rw [if_neg q, if_neg q]
    by_cases r : j = a
    · rw [if_pos r, if_pos r]
    · rw [if_neg r, if_neg r]
theorem PO_swp {n : Nat} {p : List Nat} (h : PO n p) {a b : Nat} (ha : a < n) (hb : b < n) : PO n (swp p a b) := by
  obtain ⟨h1, h2, h3⟩ := h
  have hp := swp_get p (a := a) (b := b) (by omega) (by omega)
  have ht : ∀ j, j < n → (if j = b then a else if j = a then b else j) < n := fun j hj => by split; exact ha; split; exact hb; exact hj
  refine ⟨by rw [swp_len, h1], fun i hi => by rw [hp]; exact h2 _ (ht i hi), fun i j hi hj e => ?_⟩
  rw [hp, hp] at e
  have := h3 _ _ (ht i hi) (ht j hj) e
  (repeat' split at this) <;> omega
theorem PO_rvs {n : Nat} : ∀ (k : Nat) (p : List Nat) (a b : Nat), PO n p → b < n → PO n (rvs k p a b)
  | 0, p, a, b, h, _ => h
  | k + 1, p, a, b, h, hb => by
    unfold rvs
    split
    · rename_i q; exact PO_rvs k _ _ _ (PO_swp h (by omega) hb) (by omega)
    · exact h
theorem rvs_low : ∀ (k : Nat) (p : List Nat) (a b j : Nat), j < a → b < p.length → (rvs k p a b).getD j 0 = p.getD j 0
  | 0, p, a, b, j, _, _ => rfl
  | k + 1, p, a, b, j, hj, hb => by
    unfold rvs
    split
    · rename_i q
      rw [rvs_low k _ _ _ j (by omega) (by rw [swp_len]; omega), swp_get p (by omega) hb, if_neg (by omega), if_neg (by omega)]
    · rfl
theorem nxF_ok (p : List Nat) : ∀ (k i : Nat), nxF p k = some i → i < k ∧ ¬ p.getD (i + 1) 0 < p.getD i 0
  | 0, i, h => by cases h
  | k + 1, i, h => by
    unfold nxF at h
    by_cases q : p.getD (k + 1) 0 < p.getD k 0
    · rw [if_pos q] at h; have := nxF_ok p k i h; exact ⟨by omega, this.2⟩
    · rw [if_neg q] at h; cases h; exact ⟨by omega, q⟩
theorem nxW_ok (p : List Nat) (x i : Nat) (hx : ¬ p.getD (i + 1) 0 < x) : ∀ (k : Nat), i + 1 ≤ k → i + 1 ≤ nxW p x k ∧ nxW p x k ≤ k ∧ ¬ p.getD (nxW p x k) 0 < x
  | 0, h => absurd h (by omega)
  | k + 1, h => by
    unfold nxW
    by_cases q : p.getD (k + 1) 0 < x
    · rw [if_pos q]
      have hk : i + 1 ≤ k := by
        rcases Nat.lt_or_ge i k with z | z
        · omega
        · have : i = k := by omega
          subst this
          exact absurd q hx
      have := nxW_ok p x i hx k hk
      exact ⟨this.1, by omega, this.2.2⟩
    · rw [if_neg q]; exact ⟨h, Nat.le_refl _, q⟩
def rk (p : List Nat) : Nat := p.foldl (fun a x => 7 * a + x) 0
theorem rk_f : ∀ (p : List Nat) (a : Nat), p.foldl (fun a x => 7 * a + x) a = a * 7 ^ p.length + rk p
  | [], a => by simp [rk]
  | x :: r, a => by
    unfold rk
    rw [List.foldl_cons, List.foldl_cons, rk_f r (7 * a + x), rk_f r (7 * 0 + x), List.length_cons, Nat.pow_succ, Nat.add_mul, Nat.mul_zero, Nat.zero_add]
    have : 7 * a * 7 ^ r.length = a * (7 ^ r.length * 7) := by rw [Nat.mul_comm 7 a, Nat.mul_assoc, Nat.mul_comm 7]
    omega
theorem rk_lt7 : ∀ (p : List Nat), (∀ x ∈ p, x < 7) → rk p < 7 ^ p.length
  | [], _ => by simp [rk]
  | x :: r, h => by
    unfold rk
    rw [List.foldl_cons, rk_f, List.length_cons, Nat.pow_succ]
    have h1 := rk_lt7 r (fun y hy => h y (List.mem_cons_of_mem _ hy))
    have h2 := h x List.mem_cons_self
    have : (7 * 0 + x) * 7 ^ r.length ≤ 6 * 7 ^ r.length := Nat.mul_le_mul_right _ (by omega)
    omega
theorem rk_lt : ∀ (p q : List Nat) (i : Nat), p.length = q.length → (∀ x ∈ p, x < 7) → i < p.length → (∀ j, j < i → p.getD j 0 = q.getD j 0) → p.getD i 0 < q.getD i 0 → rk p < rk q
  | [], q, i, _, _, hi, _, _ => absurd hi (by simp)
  | x :: r, [], i, hl, _, _, _, _ => by simp at hl
  | x :: r, y :: s, i, hl, hp, hi, hj, hlt => by
    have hl' : r.length = s.length := by simpa using hl
    unfold rk
    rw [List.foldl_cons, List.foldl_cons, rk_f, rk_f, hl']
    cases i with
    | zero =>
      have hxy : x < y := hlt
      have h1 := rk_lt7 r (fun z hz => hp z (List.mem_cons_of_mem _ hz))
      rw [hl'] at h1
      have : (7 * 0 + x + 1) * 7 ^ s.length ≤ (7 * 0 + y) * 7 ^ s.length := Nat.mul_le_mul_right _ (by omega)
      rw [Nat.add_mul] at this
      omega
    | succ i =>
      have hxy : x = y := hj 0 (by omega)
      subst hxy
      have := rk_lt r s i hl' (fun z hz => hp z (List.mem_cons_of_mem _ hz)) (by simpa using hi) (fun j h => hj (j + 1) (by omega)) hlt
      omega
theorem PO_mem {n : Nat} {p : List Nat} (h : PO n p) : ∀ x ∈ p, x < n := by
  intro x hx
  obtain ⟨i, hi⟩ := List.getElem?_of_mem hx
  have hl := (List.getElem?_eq_some_iff.mp hi).1
  have := h.2.1 i (by rw [← h.1]; exact hl)
  rwa [getD_of hi] at this
theorem nxt_ok {n : Nat} {p q : List Nat} (h : PO n p) (hn : n ≤ 6) (e : nxt p = some q) : PO n q ∧ rk p < rk q := by
  unfold nxt at e
  cases hf : nxF p (p.length - 1) with
  | none => rw [hf] at e; cases e
  | some i =>
    rw [hf] at e
    cases e
    obtain ⟨h1, h2⟩ := nxF_ok p _ _ hf
    obtain ⟨w1, w2, w3⟩ := nxW_ok p (p.getD i 0) i h2 (p.length - 1) (by omega)
    have hl := h.1
    have hlt : p.getD i 0 < p.getD (nxW p (p.getD i 0) (p.length - 1)) 0 := by
      rcases Nat.lt_or_ge (p.getD i 0) (p.getD (nxW p (p.getD i 0) (p.length - 1)) 0) with z | z
      · exact z
      · have := h.2.2 i _ (by omega) (by omega) (show p.getD i 0 = p.getD (nxW p (p.getD i 0) (p.length - 1)) 0 by omega)
        omega
    have hs := PO_swp h (a := i) (b := nxW p (p.getD i 0) (p.length - 1)) (by omega) (by omega)
    have hr := PO_rvs p.length _ (i + 1) (p.length - 1) hs (by omega)
    refine ⟨hr, rk_lt _ _ i (hl.trans hr.1.symm) (fun x hx => Nat.lt_of_lt_of_le (PO_mem h x hx) (by omega)) (by omega) (fun j hj => ?_) ?_⟩
    · rw [rvs_low _ _ _ _ _ (by omega) (by rw [swp_len]; omega), swp_get p (by omega) (by omega), if_neg (by omega), if_neg (by omega)]
    · rw [rvs_low _ _ _ _ _ (by omega) (by rw [swp_len]; omega), swp_get p (by omega) (by omega), if_neg (by omega), if_pos rfl]
      exact hlt
theorem PO_id (n : Nat) : PO n (List.range n) := by
  have hg : ∀ i, i < n → (List.range n).getD i 0 = i := fun i hi => by rw [List.getD_eq_getElem?_getD, List.getElem?_range hi]; rfl
  exact ⟨List.length_range, fun i hi => by rw [hg i hi]; exact hi, fun i j hi hj e => by rw [hg i hi, hg j hj] at e; exact e⟩
theorem rk_PO {n : Nat} {p : List Nat} (h : PO n p) (hn : n ≤ 6) : rk p < 117649 := by
  have h1 := rk_lt7 p (fun x hx => Nat.lt_of_lt_of_le (PO_mem h x hx) (by omega))
  rw [h.1] at h1
  have : 7 ^ n ≤ 7 ^ 6 := Nat.pow_le_pow_right (by omega) hn
  omega
/-- how many orders are looked at, at most -/
def layF : Nat := 117649
def lay : Nat → St → List Nat → Int32 → List Nat → List Nat → List Nat
  | 0, _, _, _, best, _ => best
  | n + 1, t, bs, least, best, ord =>
    match nxt ord with
    | none => if (pby t (inO bs ord)).1 = bs.length ∧ (least = -1 ∨ sN (pby t (inO bs ord)).2 4 - sN t 4 < least) then ord else best
    | some o => if (pby t (inO bs ord)).1 = bs.length ∧ (least = -1 ∨ sN (pby t (inO bs ord)).2 4 - sN t 4 < least) then lay n t bs (sN (pby t (inO bs ord)).2 4 - sN t 4) ord o else lay n t bs least best o
def layB (t : St) (bs : List Nat) : List Nat := lay layF t bs (-1) (List.range bs.length) (List.range bs.length)
/-- a batch bs is picked by a rule: how many, and the state behind it -/
def pbat (t : St) (bs : List Nat) (rule : Int32) : Nat × St :=
  if rule = 1 then pckN t (bX bs) else if rule = 2 then pby t (inO bs (layB t bs)) else pby t (inO bs (List.range bs.length))
theorem Row_cg {s s' : Nat → Int32} {t : St} (hr : Row s t) (hn : (sI t).length ≤ 40) (h : ∀ j, j < 142 → s' j = s j) : Row s' t := by
  obtain ⟨r1, r2, r3, r4, r5, r6, r7⟩ := hr
  refine ⟨fun k hk => by rw [h k (by omega)]; exact r1 k hk, by rw [h 3 (by omega)]; exact r2, fun k h1 h2 => by rw [h k (by omega)]; exact r3 k h1 h2, by rw [h 8 (by omega)]; exact r4, by rw [h 9 (by omega)]; exact r5, fun d hd => by rw [h _ (by omega)]; exact r6 d hd, fun i x hx => ?_⟩
  have hi := (List.getElem?_eq_some_iff.mp hx).1
  rw [h _ (by omega), h _ (by omega), h _ (by omega)]
  exact r7 i x hx
