section
/-! pure rows: bits and the wanted sets of the law's four tokens -/
def du_b (v : Nat) : Int32 := (1 : Int32) <<< (nI v &&& 31)
/-- what is wanted before token 3, 2, 1, 0; ou = 0: the last token is USE x, else RETURN -/
def du_w3 (ou x : Nat) : Int32 := if ou = 0 then 0 ||| du_b x else 0
def du_w2 (ou x z : Nat) : Int32 := du_w3 ou x &&& (du_b z ^^^ (-1))
def du_w1 (ou x y z : Nat) : Int32 := du_w2 ou x z ||| du_b y
def du_w0 (ou x y z : Nat) : Int32 := du_w1 ou x y z &&& (du_b x ^^^ (-1))
def du_W (ou x y z : Nat) (i : Nat) : Int32 := if i = 0 then du_w0 ou x y z else if i = 1 then du_w1 ou x y z else if i = 2 then du_w2 ou x z else if i = 3 then du_w3 ou x else 0
/-- later, and idle's two answers -/
def du_la (ou x z : Nat) : Nat := if ou = 0 ∧ z ≠ x then 1 else 0
theorem du_six (p : Int32) : ∃ j : Nat, j < 6 ∧ (p &&& 2147483647) - (p &&& 2147483647) / 6 * 6 = nI j := by
  refine ⟨p.toBitVec.toNat % 2 ^ 31 % 6, Nat.mod_lt _ (by decide), ?_⟩
  rw [pk_and p (m := 2147483647) 31 (by decide)]
  exact pk_rem (d := 6) (Nat.mod_lt _ (by decide)) (by decide) (by decide)
theorem du_p0 : ∀ ou, ou < 2 → ∀ x, x < 6 → ∀ y, y < 6 → ∀ z, z < 6 → du_w0 ou x y z = (if x = y then 0 else du_b y) := by decide +kernel
theorem du_p1 : ∀ ou, ou < 2 → ∀ x, x < 6 → ∀ y, y < 6 → ∀ z, z < 6 → du_w1 ou x y z = du_b y ||| (if du_la ou x z = 0 then 0 else du_b x) := by decide +kernel
theorem du_q2 : ∀ ou, ou < 2 → ∀ x, x < 6 → ∀ y, y < 6 → ∀ z, z < 6 → decide ((du_w1 ou x y z >>> (nI x &&& 31)) &&& 1 = 0) = decide (y ≠ x ∧ du_la ou x z = 0) := by decide +kernel
theorem du_p2 : ∀ ou, ou < 2 → ∀ x, x < 6 → ∀ y, y < 6 → ∀ z, z < 6 → ((du_w1 ou x y z >>> (nI x &&& 31)) &&& 1 = 0 ↔ (y ≠ x ∧ du_la ou x z = 0)) :=
  fun ou h x hx y hy z hz => decide_eq_decide.mp (du_q2 ou h x hx y hy z hz)
theorem du_p3 : ∀ ou, ou < 2 → ∀ x, x < 6 → ∀ z, z < 6 → ((du_w3 ou x >>> (nI z &&& 31)) &&& 1 = 0 ↔ ¬ (ou = 0 ∧ z = x)) := by decide +kernel
theorem du_p4 : ∀ x, x < 6 → ∀ y, y < 6 → ((du_b x >>> (nI y &&& 31)) &&& 1 = 0 ↔ x ≠ y) := by decide +kernel
theorem du_p5 : ∀ x, x < 6 → ∀ z, z < 6 → ¬ (((du_b x ||| du_b z) >>> (nI x &&& 31)) &&& 1 = 0) := by decide +kernel
theorem du_or0 (x : Int32) : 0 ||| x = x := by
  apply Int32.toBitVec_inj.mp
  simp
theorem du_ne {x : Int32} (h : x = 0 ∨ x = 1 ∨ x = 9) : ¬ x = 2 ∧ ¬ x = 3 ∧ ¬ x = 4 ∧ ¬ x = 5 ∧ ¬ x = 6 ∧ ¬ x = 7 ∧ ¬ x = 8 := by
  rcases h with rfl | rfl | rfl <;> decide
end
section
/-! one lemma a method, post general -/
section
variable {l r g o nw lv : Int32} {a1 a2 a3 a4 a5 a6 a7 a8 a9 a10 a11 : Nat → Int32}
theorem du_bad {post : Int32 → Prop} {p0 : Int32} {v : Nat} (hv : v < 6) (h : post 0) : wpX_badVariable post () p0 (nI v) := by
  have A : wX_badVariable_9 post (nI v) := br_f (nI_pos (by omega)) (br_t (nI_le (b := 5) (by omega) (by decide)) h)
  exact br_c (fun _ => A) (fun _ => br_c (fun _ => A) (fun _ => h))
theorem du_add {post : Int32 → St2 → Prop} {n k v : Nat} {w : Int32} (hn : n < 40) (hk : k ≤ 9) (hv : v < 6) (hw1 : 1 < k → w = 0) (hw2 : k ≤ 1 → w = nI v)
    (H : ∀ q, post q (nI (n + 1), 0, g, o, nw, lv, upd a1 n (nI k), upd a2 n w, a3, a4, a5, a6, a7, a8, a9, a10, a11)) : wpX_add post (nI n, r, g, o, nw, lv, a1, a2, a3, a4, a5, a6, a7, a8, a9, a10, a11) (nI k) (nI v) := by
  refine br_f (nI_pos (by omega)) (br_t (nI_le (b := 9) hk (by decide)) (du_bad hv (br_t rfl ?_)))
  refine pk_lt n 40 (fun _ => ⟨pk_in n 40 hn, nm_r (e' := upd a1 n (nI k)) (by rw [nI_clamp (by omega)]) ?_⟩) (fun z => absurd z (by omega))
  refine pk_lt 1 k (fun z => ⟨pk_in n 40 hn, nm_r (e' := upd a2 n w) (by rw [nI_clamp (by omega), hw1 z]) (nm_r (nI_1 n) (H _))⟩) (fun z => ⟨pk_in n 40 hn, nm_r (e' := upd a2 n w) (by rw [nI_clamp (by omega), hw2 z]) (nm_r (nI_1 n) (H _))⟩)
theorem du_place {post : Int32 → St2 → Prop} {p : Nat} (hp : p < 40) (hk : a1 p = 0 ∨ a1 p = 1 ∨ a1 p = 9)
    (H : ∀ b3 b4 b5, post 1 (l, r, g, o, nw, lv, a1, a2, b3, b4, b5, a6, a7, a8, a9, a10, a11)) : wpX_placeToken post (l, r, g, o, nw, lv, a1, a2, a3, a4, a5, a6, a7, a8, a9, a10, a11) (nI p) := by
  obtain ⟨h2, h3, h4, h5, h6, h7, h8⟩ := du_ne hk
  exact ⟨pk_in p 40 hp, nm_r (e' := a1 p) (by rw [nI_clamp (by omega)]) ⟨pk_in p 40 hp, nm_e ⟨pk_in p 40 hp, nm_e ⟨pk_in p 40 hp, nm_e (br_f h2 (br_f h4 (br_f h5 (br_f h7 (br_f h8 (br_f h3 (br_f h6 (H _ _ _))))))))⟩⟩⟩⟩
theorem du_12 {post : St2 → Prop} (hk : ∀ i, i < 4 → a1 i = 0 ∨ a1 i = 1 ∨ a1 i = 9) (H : ∀ b3 b4 b5, post (nI 4, r, 1, 0, nw, lv, a1, a2, b3, b4, b5, a6, a7, a8, a9, a10, a11)) :
    ∀ n i, i + n = 4 → ∀ b3 b4 b5, wX_findStructure_12 post (n + 1) (nI i) (nI 4) r 1 0 nw lv a1 a2 b3 b4 b5 a6 a7 a8 a9 a10 a11 := by
  intro n
  induction n with
  | zero =>
    intro i hi b3 b4 b5
    have e : i = 4 := by omega
    subst e
    exact pk_le 4 4 (fun _ => br_t (by decide) (H b3 b4 b5)) (fun z => absurd z (by omega))
  | succ n ih =>
    intro i hi b3 b4 b5
    exact pk_le 4 i (fun z => absurd z (by omega)) (fun _ => br_f (by decide) (du_place (by omega) (hk i (by omega)) (fun c3 c4 c5 => ⟨by rfl, by rfl, nm_r (nI_1 i) (ih (i + 1) (by omega) c3 c4 c5)⟩)))
theorem du_find {post : St2 → Prop} (hk : ∀ i, i < 4 → a1 i = 0 ∨ a1 i = 1 ∨ a1 i = 9) (H : ∀ b3 b4 b5, post (nI 4, r, 1, 0, nw, lv, a1, a2, b3, b4, b5, a6, a7, a8, a9, a10, a11)) :
    wpX_findStructure post (nI 4, r, g, o, nw, lv, a1, a2, a3, a4, a5, a6, a7, a8, a9, a10, a11) := ⟨5, du_12 hk H 4 0 rfl a3 a4 a5⟩
/-! forward -/
theorem du_f67 {post : St2 → Prop} {p x2 : Int32} (hk : x2 = 0 ∨ x2 = 1 ∨ x2 = 9) (H1 : x2 < 7 → post (l, r, g, o, nw, lv, a1, a2, a3, a4, a5, a6, a7, a8, a9, a10, a11)) (H2 : ¬ x2 < 7 → post (l, r, g, o, 63, 0, a1, a2, a3, a4, a5, a6, a7, a8, a9, a10, a11)) :
    wX_forward_67 post p x2 l r g o nw lv a1 a2 a3 a4 a5 a6 a7 a8 a9 a10 a11 := by
  obtain ⟨h2, h3, h4, h5, h6, h7, h8⟩ := du_ne hk
  have A : wX_forward_148 post x2 l r g o nw lv a1 a2 a3 a4 a5 a6 a7 a8 a9 a10 a11 := br_c H1 H2
  have B : wX_forward_87 post p x2 l r g o nw lv a1 a2 a3 a4 a5 a6 a7 a8 a9 a10 a11 := br_f h3 (br_f h7 A)
  exact br_f h2 (br_f h4 (br_f h5 B))
theorem du_fw {post : St2 → Prop} {p : Nat} {nw' lv' : Int32} (hp : p < 40) (hk : a1 p = 0 ∨ a1 p = 1 ∨ a1 p = 9)
    (h0 : a1 p = 0 → nw' = nw ||| ((1 : Int32) <<< (a2 p &&& 31)) ∧ lv' = 1) (h1 : a1 p = 1 → nw' = nw ∧ lv' = 1) (h9 : a1 p = 9 → nw' = 63 ∧ lv' = 0)
    (H : post (l, r, g, o, nw', lv', a1, a2, a3, a4, a5, a6, upd a7 p nw, upd a8 p 1, a9, a10, a11)) : wpX_forward post (l, r, g, o, nw, 1, a1, a2, a3, a4, a5, a6, a7, a8, a9, a10, a11) (nI p) := by
  have h6 : ¬ a1 p = 6 := (du_ne hk).2.2.2.2.1
  refine ⟨pk_in p 40 hp, nm_r (e' := a1 p) (by rw [nI_clamp (by omega)]) (br_f h6 ⟨pk_in p 41 (by omega), nm_r (e' := upd a7 p nw) (by rw [nI_clamp (by omega)]) ⟨pk_in p 41 (by omega), nm_r (e' := upd a8 p 1) (by rw [nI_clamp (by omega)]; rfl) ?_⟩⟩)⟩
  refine br_c (fun e => br_f (by decide) ⟨pk_in p 40 hp, nm_r (e' := nw') (by rw [nI_clamp (by omega)]; exact (h0 e).1.symm) (du_f67 hk (fun _ => ?_) (fun z => absurd (by rw [e]; decide) z))⟩) (fun e => du_f67 hk (fun z => ?_) (fun z => ?_))
  · rw [(h0 e).2] at H
    exact H
  · rcases hk with k | k | k
    · exact absurd k e
    · rw [(h1 k).1, (h1 k).2] at H
      exact H
    · rw [k] at z
      exact absurd z (by decide)
  · rcases hk with k | k | k
    · exact absurd k e
    · rw [k] at z
      exact absurd (by decide) z
    · rw [(h9 k).1, (h9 k).2] at H
      exact H
/-! backward -/
theorem du_on {post : Int32 → Prop} {p : Nat} (hp : p < 4) (hk : a1 p = 0 ∨ a1 p = 1 ∨ a1 p = 9) (h9 : a1 p = 9 → p = 3) (h : post (nI (p + 1))) : wpX_onward post (nI 4, r, g, o, nw, lv, a1, a2, a3, a4, a5, a6, a7, a8, a9, a10, a11) (nI p) := by
  obtain ⟨h2, h3, h4, h5, h6, h7, h8⟩ := du_ne hk
  have A : wX_onward_52 post (nI p) (a1 p) (nI 4) r g o nw lv a1 a2 a3 a4 a5 a6 a7 a8 a9 a10 a11 := by
    refine br_f h7 (br_f h8 (br_c (fun e => ?_) (fun _ => ?_)))
    · have e3 := h9 e
      subst e3
      exact h
    · rw [nI_1]
      exact h
  exact ⟨pk_in p 40 (by omega), nm_r (e' := a1 p) (by rw [nI_clamp (by omega)]) (br_f h3 (br_f h6 A))⟩
theorem du_ot {post : Int32 → Prop} {p : Nat} (hp : p < 40) (hk : a1 p = 0 ∨ a1 p = 1 ∨ a1 p = 9) (h : post (-1)) : wpX_otherWay post (l, r, g, o, nw, lv, a1, a2, a3, a4, a5, a6, a7, a8, a9, a10, a11) (nI p) := by
  obtain ⟨h2, h3, h4, h5, h6, h7, h8⟩ := du_ne hk
  have c : (nI p).toNatClampNeg = p := nI_clamp (by omega)
  exact ⟨pk_in p 40 hp, br_f (by rw [c]; exact h4) ⟨pk_in p 40 hp, br_f (by rw [c]; exact h2) h⟩⟩
theorem du_wb {post : Int32 → Prop} {p : Nat} (hp : p < 4) (hk : a1 p = 0 ∨ a1 p = 1 ∨ a1 p = 9) (h9 : a1 p = 9 → p = 3) (h : post (a11 (p + 1))) : wpX_wantedBehind post (nI 4, r, g, o, nw, lv, a1, a2, a3, a4, a5, a6, a7, a8, a9, a10, a11) (nI p) := by
  unfold wpX_wantedBehind
  refine du_on hp hk h9 ⟨pk_in (p + 1) 41 (by omega), nm_r (e' := a11 (p + 1)) (by rw [nI_clamp (by omega)]) (du_ot (by omega) hk (br_f (by decide) h))⟩
theorem du_105 {post : St2 → Prop} {J27 J47 : Int32 → Int32 → (Nat → Int32) → (Nat → Int32) → (Nat → Int32) → (Nat → Int32) → (Nat → Int32) → (Nat → Int32) → (Nat → Int32) → (Nat → Int32) → (Nat → Int32) → (Nat → Int32) → (Nat → Int32) → Prop}
    {c : Prop} {W : Nat → Int32} {x1 x2 x4 : Int32} {j : Nat} (hj : j < 4) (hx : x4 = W j)
    (hI : ∀ x b, (∀ i, j ≤ i → i ≤ 4 → b i = W i) → (c → x = 0 ∧ ∀ i, i ≤ 4 → b i = W i) → J47 x (nI j + (-1)) a1 a2 a3 a4 a5 a6 a7 a8 a9 a10 b)
    (h : ∀ i, j + 1 ≤ i → i ≤ 4 → a11 i = W i) (hc : c → x1 = 0 ∧ ∀ i, i ≤ 4 → a11 i = W i) : wX_backward_105 post J27 J47 x1 x2 (nI j) x4 l r g o nw lv a1 a2 a3 a4 a5 a6 a7 a8 a9 a10 a11 := by
  have cl : (nI j).toNatClampNeg = j := nI_clamp (by omega)
  have F : ∀ i, j ≤ i → i ≤ 4 → upd a11 j x4 i = W i := by
    intro i h1 h2
    by_cases e : i = j
    · rw [e, pk_us, hx]
    · rw [pk_un e]
      exact h i (by omega) h2
  have G : c → ∀ i, i ≤ 4 → upd a11 j x4 i = W i := by
    intro k i h2
    by_cases e : i = j
    · rw [e, pk_us, hx]
    · rw [pk_un e]
      exact (hc k).2 i h2
  refine ⟨pk_in j 41 (by omega), br_c (fun e => ⟨pk_in j 41 (by omega), nm_r (e' := upd a11 j x4) (by rw [cl]) (nm_e (hI _ _ F (fun k => ⟨(hc k).1, G k⟩)))⟩) (fun e => ⟨pk_in j 41 (by omega), nm_r (e' := upd a11 j x4) (by rw [cl]) (nm_e (hI _ _ F (fun k => absurd ?_ e)))⟩)⟩
  rw [cl, hx]
  exact ((hc k).2 j (by omega)).symm
end
end
section
/-! the backward passes, and prepare -/
section
variable {l r g o nw lv : Int32} {a1 a2 a3 a4 a5 a6 a7 a8 a9 a10 a11 : Nat → Int32}
theorem du_47 {post : St2 → Prop} {J27 : Int32 → Int32 → (Nat → Int32) → (Nat → Int32) → (Nat → Int32) → (Nat → Int32) → (Nat → Int32) → (Nat → Int32) → (Nat → Int32) → (Nat → Int32) → (Nat → Int32) → (Nat → Int32) → (Nat → Int32) → Prop}
    {c : Prop} {W : Nat → Int32} {x2 : Int32} (hk : ∀ i, i < 4 → a1 i = 0 ∨ a1 i = 1 ∨ a1 i = 9) (h9 : ∀ i, i < 4 → a1 i = 9 → i = 3)
    (W0 : ∀ i, i < 4 → a1 i = 0 → W i = W (i + 1) &&& (((1 : Int32) <<< (a2 i &&& 31)) ^^^ (-1)))
    (W1 : ∀ i, i < 4 → a1 i = 1 → W i = W (i + 1) ||| ((1 : Int32) <<< (a2 i &&& 31)))
    (W9 : ∀ i, i < 4 → a1 i = 9 → W i = W (i + 1))
    (hJ : ∀ x b, (∀ i, i ≤ 4 → b i = W i) → (c → x = 0) → J27 x (x2 + 1) a1 a2 a3 a4 a5 a6 a7 a8 a9 a10 b) :
    ∀ j, j ≤ 4 → ∀ x1 b, (∀ i, j ≤ i → i ≤ 4 → b i = W i) → (c → x1 = 0 ∧ ∀ i, i ≤ 4 → b i = W i) →
      wX_backward_47 post J27 x2 (nI 4) r g o nw lv (j + 1) x1 (nI j + (-1)) a1 a2 a3 a4 a5 a6 a7 a8 a9 a10 b := by
  intro j
  induction j with
  | zero =>
    intro _ x1 b hb hc
    exact br_t (by decide) (nm_e (hJ x1 b (fun i hi => hb i (by omega) hi) (fun k => (hc k).1)))
  | succ j ih =>
    intro hj x1 b hb hc
    have hI := ih (by omega)
    have cl : (nI j).toNatClampNeg = j := nI_clamp (by omega)
    rw [pk_m1]
    refine br_f (nI_pos (by omega)) (du_wb (by omega) (hk j (by omega)) (h9 j (by omega)) ⟨pk_in j 40 (by omega), ?_⟩)
    rw [cl, hb (j + 1) (by omega) (by omega)]
    refine br_c (fun e => ⟨pk_in j 40 (by omega), nm_e ⟨pk_in j 40 (by omega), ?_⟩⟩) (fun e => ⟨pk_in j 40 (by omega), ?_⟩)
    · rw [cl]
      exact br_f (by rw [e]; decide) (du_105 (by omega) (W0 j (by omega) e).symm hI hb hc)
    · rw [cl]
      refine br_c (fun e1 => ⟨pk_in j 40 (by omega), nm_e (du_105 (by omega) (W1 j (by omega) e1).symm hI hb hc)⟩) (fun e1 => du_105 (by omega) (W9 j (by omega) ?_).symm hI hb hc)
      rcases hk j (by omega) with k | k | k
      · exact absurd k e
      · exact absurd k e1
      · exact k
theorem du_27 {post : St2 → Prop} {W : Nat → Int32} (hk : ∀ i, i < 4 → a1 i = 0 ∨ a1 i = 1 ∨ a1 i = 9) (h9 : ∀ i, i < 4 → a1 i = 9 → i = 3)
    (W0 : ∀ i, i < 4 → a1 i = 0 → W i = W (i + 1) &&& (((1 : Int32) <<< (a2 i &&& 31)) ^^^ (-1)))
    (W1 : ∀ i, i < 4 → a1 i = 1 → W i = W (i + 1) ||| ((1 : Int32) <<< (a2 i &&& 31)))
    (W9 : ∀ i, i < 4 → a1 i = 9 → W i = W (i + 1)) (H : ∀ b, (∀ i, i ≤ 4 → b i = W i) → post (nI 4, r, g, o, nw, lv, a1, a2, a3, a4, a5, a6, a7, a8, a9, a10, b)) (h4 : a11 4 = W 4) :
    wX_backward_27 post (nI 4) r g o nw lv 3 1 0 a1 a2 a3 a4 a5 a6 a7 a8 a9 a10 a11 := by
  refine br_f (by decide) (br_f (by decide) (nm_r (e' := nI 4 + (-1)) (by decide) ⟨5, du_47 (c := False) hk h9 W0 W1 W9 (fun x b hb _ => ?_) 4 (by omega) 0 a11 (fun i h1 h2 => by rw [show i = 4 by omega]; exact h4) (fun k => absurd k id)⟩))
  refine br_f (by decide) (br_c (fun _ => H b hb) (fun _ => nm_r (e' := nI 4 + (-1)) (by decide) ⟨5, du_47 (c := True) hk h9 W0 W1 W9 (fun x b hb hx => ?_) 4 (by omega) 0 b (fun i _ h2 => hb i h2) (fun _ => ⟨rfl, hb⟩)⟩))
  exact br_f (by decide) (br_t (hx trivial) (H b hb))
theorem du_2 {post : St2 → Prop} {W : Nat → Int32} (hk : ∀ i, i < 4 → a1 i = 0 ∨ a1 i = 1 ∨ a1 i = 9) (h9 : ∀ i, i < 4 → a1 i = 9 → i = 3)
    (W0 : ∀ i, i < 4 → a1 i = 0 → W i = W (i + 1) &&& (((1 : Int32) <<< (a2 i &&& 31)) ^^^ (-1)))
    (W1 : ∀ i, i < 4 → a1 i = 1 → W i = W (i + 1) ||| ((1 : Int32) <<< (a2 i &&& 31)))
    (W9 : ∀ i, i < 4 → a1 i = 9 → W i = W (i + 1)) (W4 : W 4 = 0) (H : ∀ b, (∀ i, i ≤ 4 → b i = W i) → post (nI 4, r, g, o, nw, lv, a1, a2, a3, a4, a5, a6, a7, a8, a9, a10, b)) :
    ∀ n i, i + n = 5 → ∀ b, (∀ j, j < i → b j = 0) → wX_backward_2 post (nI 4) r g o nw lv (n + 1) (nI i) a1 a2 a3 a4 a5 a6 a7 a8 a9 a10 b := by
  intro n
  induction n with
  | zero =>
    intro i hi b hb
    exact pk_lt 4 i (fun _ => ⟨3, du_27 hk h9 W0 W1 W9 H (by rw [W4]; exact hb 4 (by omega))⟩) (fun z => absurd z (by omega))
  | succ n ih =>
    intro i hi b hb
    refine pk_lt 4 i (fun z => absurd z (by omega)) (fun _ => ⟨pk_in i 41 (by omega), nm_r (e' := upd b i 0) (by rw [nI_clamp (by omega)]) (nm_r (nI_1 i) (ih (i + 1) (by omega) (upd b i 0) (fun j hj => ?_)))⟩)
    by_cases e : j = i
    · rw [e, pk_us]
    · rw [pk_un e]
      exact hb j (by omega)
/-- the law's four tokens; ou = 0: the last one is USE x, else RETURN -/
def du_K (ou x y z : Nat) (a1 a2 : Nat → Int32) : Prop := a1 0 = 0 ∧ a1 1 = 1 ∧ a1 2 = 0 ∧ a1 3 = (if ou = 0 then 1 else 9) ∧ a2 0 = nI x ∧ a2 1 = nI y ∧ a2 2 = nI z ∧ (ou = 0 → a2 3 = nI x)
theorem du_kk {ou x y z : Nat} (h : du_K ou x y z a1 a2) : ∀ i, i < 4 → a1 i = 0 ∨ a1 i = 1 ∨ a1 i = 9 := by
  obtain ⟨k0, k1, k2, k3, _⟩ := h
  refine fun i hi => co_4 (P := fun i => a1 i = 0 ∨ a1 i = 1 ∨ a1 i = 9) (Or.inl k0) (Or.inr (Or.inl k1)) (Or.inl k2) ?_ hi
  show a1 3 = 0 ∨ a1 3 = 1 ∨ a1 3 = 9
  by_cases e : ou = 0
  · rw [if_pos e] at k3
    exact Or.inr (Or.inl k3)
  · rw [if_neg e] at k3
    exact Or.inr (Or.inr k3)
theorem du_k9 {ou x y z : Nat} (h : du_K ou x y z a1 a2) : ∀ i, i < 4 → a1 i = 9 → i = 3 := by
  obtain ⟨k0, k1, k2, k3, _⟩ := h
  refine fun i hi => co_4 (P := fun i => a1 i = 9 → i = 3) (fun e => ?_) (fun e => ?_) (fun e => ?_) (fun _ => rfl) hi
  · rw [k0] at e
    exact absurd e (by decide)
  · rw [k1] at e
    exact absurd e (by decide)
  · rw [k2] at e
    exact absurd e (by decide)
theorem du_W0 {ou x y z : Nat} (h : du_K ou x y z a1 a2) : ∀ i, i < 4 → a1 i = 0 → du_W ou x y z i = du_W ou x y z (i + 1) &&& (((1 : Int32) <<< (a2 i &&& 31)) ^^^ (-1)) := by
  obtain ⟨k0, k1, k2, k3, v0, v1, v2, v3⟩ := h
  refine fun i hi => co_4 (P := fun i => a1 i = 0 → du_W ou x y z i = du_W ou x y z (i + 1) &&& (((1 : Int32) <<< (a2 i &&& 31)) ^^^ (-1))) (fun _ => ?_) (fun e => ?_) (fun _ => ?_) (fun e => ?_) hi
  · rw [v0]
    rfl
  · rw [k1] at e
    exact absurd e (by decide)
  · rw [v2]
    rfl
  · rw [k3] at e
    by_cases t : ou = 0
    · rw [if_pos t] at e
      exact absurd e (by decide)
    · rw [if_neg t] at e
      exact absurd e (by decide)
theorem du_W1 {ou x y z : Nat} (h : du_K ou x y z a1 a2) : ∀ i, i < 4 → a1 i = 1 → du_W ou x y z i = du_W ou x y z (i + 1) ||| ((1 : Int32) <<< (a2 i &&& 31)) := by
  obtain ⟨k0, k1, k2, k3, v0, v1, v2, v3⟩ := h
  refine fun i hi => co_4 (P := fun i => a1 i = 1 → du_W ou x y z i = du_W ou x y z (i + 1) ||| ((1 : Int32) <<< (a2 i &&& 31))) (fun e => ?_) (fun _ => ?_) (fun e => ?_) (fun e => ?_) hi
  · rw [k0] at e
    exact absurd e (by decide)
  · rw [v1]
    rfl
  · rw [k2] at e
    exact absurd e (by decide)
  · rw [k3] at e
    by_cases t : ou = 0
    · rw [v3 t]
      show du_w3 ou x = 0 ||| du_b x
      unfold du_w3
      rw [if_pos t]
    · rw [if_neg t] at e
      exact absurd e (by decide)
theorem du_W9 {ou x y z : Nat} (h : du_K ou x y z a1 a2) : ∀ i, i < 4 → a1 i = 9 → du_W ou x y z i = du_W ou x y z (i + 1) := by
  intro i hi e
  have e3 := du_k9 h i hi e
  subst e3
  have k3 := h.2.2.2.1
  rw [k3] at e
  show du_w3 ou x = 0
  unfold du_w3
  by_cases t : ou = 0
  · rw [if_pos t] at e
    exact absurd e (by decide)
  · rw [if_neg t]
theorem du_backward {post : St2 → Prop} {ou x y z : Nat} (h : du_K ou x y z a1 a2) (H : ∀ b, (∀ i, i ≤ 4 → b i = du_W ou x y z i) → post (nI 4, r, g, o, nw, lv, a1, a2, a3, a4, a5, a6, a7, a8, a9, a10, b)) :
    wpX_backward post (nI 4, r, g, o, nw, lv, a1, a2, a3, a4, a5, a6, a7, a8, a9, a10, a11) :=
  ⟨6, du_2 (du_kk h) (du_k9 h) (du_W0 h) (du_W1 h) (du_W9 h) rfl H 5 0 rfl a11 (fun j hj => absurd hj (by omega))⟩
/-- the prepared state: its answers -/
def du_F (ou x y z : Nat) (a1 a2 a7 a8 a11 : Nat → Int32) : Prop := du_K ou x y z a1 a2 ∧ a7 1 = du_b x ∧ a7 3 = (du_b x ||| du_b z) ∧ a8 0 = 1 ∧ a8 1 = 1 ∧ a8 2 = 1 ∧ a8 3 = 1 ∧ a8 4 = (if ou = 0 then 1 else 0) ∧ ∀ i, i ≤ 4 → a11 i = du_W ou x y z i
theorem du_37 {post : St2 → Prop} {ou x y z : Nat} (h : du_K ou x y z a1 a2)
    (H : ∀ nw lv b7 b8 b11, du_F ou x y z a1 a2 b7 b8 b11 → post (nI 4, 1, 1, 0, nw, lv, a1, a2, a3, a4, a5, a6, b7, b8, a9, a10, b11)) :
    wX_prepare_37 post 5 0 (nI 4) 1 1 0 0 1 a1 a2 a3 a4 a5 a6 a7 a8 a9 a10 a11 := by
  have hk := du_kk h
  have h' := h
  obtain ⟨k0, k1, k2, k3, v0, v1, v2, v3⟩ := h'
  have n0 : ¬ (0 : Int32) = 1 := by decide
  have n1 : ¬ (0 : Int32) = 9 := by decide
  have n2 : ¬ (1 : Int32) = 0 := by decide
  have n3 : ¬ (1 : Int32) = 9 := by decide
  refine pk_le 4 0 (fun z => absurd z (by omega)) (fun _ => du_fw (p := 0) (nw' := du_b x) (lv' := 1) (by omega) (hk 0 (by omega)) (fun _ => ⟨by rw [v0, du_or0]; rfl, rfl⟩) (fun e => absurd (k0.symm.trans e) n0) (fun e => absurd (k0.symm.trans e) n1) (nm_r (e' := nI 1) rfl ?_))
  refine pk_le 4 1 (fun z => absurd z (by omega)) (fun _ => du_fw (p := 1) (nw' := du_b x) (lv' := 1) (by omega) (hk 1 (by omega)) (fun e => absurd (k1.symm.trans e) n2) (fun _ => ⟨rfl, rfl⟩) (fun e => absurd (k1.symm.trans e) n3) (nm_r (e' := nI 2) rfl ?_))
  refine pk_le 4 2 (fun z => absurd z (by omega)) (fun _ => du_fw (p := 2) (nw' := du_b x ||| du_b z) (lv' := 1) (by omega) (hk 2 (by omega)) (fun _ => ⟨by rw [v2]; rfl, rfl⟩) (fun e => absurd (k2.symm.trans e) n0) (fun e => absurd (k2.symm.trans e) n1) (nm_r (e' := nI 3) rfl ?_))
  refine pk_le 4 3 (fun z => absurd z (by omega)) (fun _ => du_fw (p := 3) (nw' := if ou = 0 then du_b x ||| du_b z else 63) (lv' := if ou = 0 then 1 else 0) (by omega) (hk 3 (by omega)) (fun e => ?_) (fun e => ?_) (fun e => ?_) (nm_r (e' := nI 4) rfl ?_))
  · rw [k3] at e
    by_cases t : ou = 0
    · rw [if_pos t] at e
      exact absurd e n2
    · rw [if_neg t] at e
      exact absurd e (by decide)
  · rw [k3] at e
    by_cases t : ou = 0
    · rw [if_pos t, if_pos t]
      exact ⟨rfl, rfl⟩
    · rw [if_neg t] at e
      exact absurd e (by decide)
  · rw [k3] at e
    by_cases t : ou = 0
    · rw [if_pos t] at e
      exact absurd e n3
    · rw [if_neg t, if_neg t]
      exact ⟨rfl, rfl⟩
  refine pk_le 4 4 (fun _ => ⟨pk_in 4 41 (by omega), nm_e ⟨pk_in 4 41 (by omega), nm_e (du_backward h (fun b hb => H _ _ _ _ _ ⟨h, ?_, ?_, ?_, ?_, ?_, ?_, ?_, hb⟩))⟩⟩) (fun z => absurd z (by omega))
  · rfl
  · rfl
  · rfl
  · rfl
  · rfl
  · rfl
  · by_cases t : ou = 0
    · show vp_nar .boolean (if ou = 0 then 1 else 0) = if ou = 0 then 1 else 0
      rw [if_pos t]
      rfl
    · show vp_nar .boolean (if ou = 0 then 1 else 0) = if ou = 0 then 1 else 0
      rw [if_neg t]
      rfl
theorem du_prepare {post : St2 → Prop} {ou x y z : Nat} (h : du_K ou x y z a1 a2)
    (H : ∀ nw lv b3 b4 b5 b7 b8 b11, du_F ou x y z a1 a2 b7 b8 b11 → post (nI 4, 1, 1, 0, nw, lv, a1, a2, b3, b4, b5, a6, b7, b8, a9, a10, b11)) :
    wpX_prepare post (nI 4, 0, g, o, nw, lv, a1, a2, a3, a4, a5, a6, a7, a8, a9, a10, a11) :=
  br_t rfl (du_find (du_kk h) (fun b3 b4 b5 => br_f (by decide) ⟨5, du_37 h (fun nw lv b7 b8 b11 => H nw lv b3 b4 b5 b7 b8 b11)⟩))
end
end
section
/-! the questions -/
section
variable {l r g o nw lv : Int32} {a1 a2 a3 a4 a5 a6 a7 a8 a9 a10 a11 : Nat → Int32}
theorem du_pr {post : St2 → Prop} (h : post (l, 1, g, o, nw, lv, a1, a2, a3, a4, a5, a6, a7, a8, a9, a10, a11)) : wpX_prepare post (l, 1, g, o, nw, lv, a1, a2, a3, a4, a5, a6, a7, a8, a9, a10, a11) := br_f (by decide) h
theorem du_no {post : Int32 → Prop} {p : Nat} (hp : p < 4) (h : post 0) : wpX_noToken post (nI 4, r, g, o, nw, lv, a1, a2, a3, a4, a5, a6, a7, a8, a9, a10, a11) (nI p) := br_f (nI_pos (by omega)) (br_t (nI_lt hp (by decide)) h)
theorem du_n1 {x : Int32} (h : x = 1) : ¬ x = 0 := by
  rw [h]
  decide
theorem du_sure1 {post : Int32 → St2 → Prop} {ou x y z : Nat} (h : du_K ou x y z a1 a2)
    (H : ∀ nw lv b3 b4 b5 b7 b8 b11, du_F ou x y z a1 a2 b7 b8 b11 → post (du_b x) (nI 4, 1, 1, 0, nw, lv, a1, a2, b3, b4, b5, a6, b7, b8, a9, a10, b11)) :
    wpX_surely post (nI 4, 0, g, o, nw, lv, a1, a2, a3, a4, a5, a6, a7, a8, a9, a10, a11) (nI 1) := by
  unfold wpX_surely
  refine du_prepare h (fun nw lv b3 b4 b5 b7 b8 b11 f => br_f (by decide) (du_no (by omega) (br_t rfl ⟨pk_in 1 41 (by omega), br_f (du_n1 f.2.2.2.2.1) ⟨pk_in 1 41 (by omega), ?_⟩⟩)))
  have t := H nw lv b3 b4 b5 b7 b8 b11 f
  rw [← f.2.1] at t
  exact t
theorem du_sure3 {post : Int32 → St2 → Prop} {ou x y z : Nat} (f : du_F ou x y z a1 a2 a7 a8 a11)
    (H : post (du_b x ||| du_b z) (nI 4, 1, 1, o, nw, lv, a1, a2, a3, a4, a5, a6, a7, a8, a9, a10, a11)) : wpX_surely post (nI 4, 1, 1, o, nw, lv, a1, a2, a3, a4, a5, a6, a7, a8, a9, a10, a11) (nI 3) := by
  unfold wpX_surely
  refine du_pr (br_f (by decide) (du_no (by omega) (br_t rfl ⟨pk_in 3 41 (by omega), br_f (du_n1 f.2.2.2.2.2.2.1) ⟨pk_in 3 41 (by omega), ?_⟩⟩)))
  rw [← f.2.2.1] at H
  exact H
theorem du_18 {post : Int32 → St2 → Prop} {n i : Nat} {c q : Int32} (hi : i < 4) (h8 : a8 i = 1)
    (h1 : a1 i = 1 → ((a7 i >>> (a2 i &&& 31)) &&& 1) = 0 → q = c + 1) (h2 : a1 i = 1 → ¬ ((a7 i >>> (a2 i &&& 31)) &&& 1) = 0 → q = c) (h0 : ¬ a1 i = 1 → q = c)
    (H : wX_doubts_18 post (nI 4) r g o nw lv a1 a2 a3 a4 a5 a6 a7 a8 a9 a10 a11 n q (nI (i + 1))) : wX_doubts_18 post (nI 4) r g o nw lv a1 a2 a3 a4 a5 a6 a7 a8 a9 a10 a11 (n + 1) c (nI i) := by
  have cl : (nI i).toNatClampNeg = i := nI_clamp (by omega)
  refine pk_le 4 i (fun z => absurd z (by omega)) (fun _ => ⟨pk_in i 40 (by omega), ?_⟩)
  rw [cl]
  refine br_c (fun e => ⟨pk_in i 41 (by omega), br_f (du_n1 h8) ⟨pk_in i 41 (by omega), pk_in i 40 (by omega), br_c (fun e2 => nm_r (h1 e e2).symm (nm_r (nI_1 i) H)) (fun e2 => nm_r (nI_1 i) ?_)⟩⟩) (fun e => nm_r (nI_1 i) ?_)
  · rw [← h2 e e2]
    exact H
  · rw [← h0 e]
    exact H
theorem du_doubts {post : Int32 → St2 → Prop} {ou x y z : Nat} (hx : x < 6) (hy : y < 6) (hz : z < 6) (f : du_F ou x y z a1 a2 a7 a8 a11)
    (H : post (if x = y then 0 else 1) (nI 4, 1, 1, o, nw, lv, a1, a2, a3, a4, a5, a6, a7, a8, a9, a10, a11)) : wpX_doubts post (nI 4, 1, 1, o, nw, lv, a1, a2, a3, a4, a5, a6, a7, a8, a9, a10, a11) := by
  obtain ⟨⟨k0, k1, k2, k3, v0, v1, v2, v3⟩, s1, s3, c0, c1, c2, c3, c4, w⟩ := f
  have n0 : ¬ (0 : Int32) = 1 := by decide
  unfold wpX_doubts
  refine du_pr (br_f (by decide) ⟨5, ?_⟩)
  refine du_18 (i := 0) (q := 0) (by omega) c0 (fun e => absurd (k0.symm.trans e) n0) (fun e => absurd (k0.symm.trans e) n0) (fun _ => rfl) ?_
  refine du_18 (i := 1) (q := if x = y then 0 else 1) (by omega) c1 (fun _ e => ?_) (fun _ e => ?_) (fun e => absurd k1 e) ?_
  · rw [s1, v1, du_p4 x hx y hy] at e
    rw [if_neg e]
    rfl
  · rw [s1, v1, du_p4 x hx y hy] at e
    rw [if_pos (Classical.not_not.mp e)]
  refine du_18 (i := 2) (q := if x = y then 0 else 1) (by omega) c2 (fun e => absurd (k2.symm.trans e) n0) (fun e => absurd (k2.symm.trans e) n0) (fun _ => rfl) ?_
  refine du_18 (i := 3) (q := if x = y then 0 else 1) (by omega) c3 (fun e e2 => ?_) (fun _ _ => rfl) (fun _ => rfl) ?_
  · have t : ou = 0 := by
      by_cases t : ou = 0
      · exact t
      · rw [k3, if_neg t] at e
        exact absurd e (by decide)
    rw [s3, v3 t] at e2
    exact absurd e2 (du_p5 x hx z hz)
  exact pk_le 4 4 (fun _ => H) (fun z => absurd z (by omega))
theorem du_isIdle {post : Int32 → Prop} {p : Nat} {q : Int32} (hp : p < 3) (k : a1 p = 0) (h8 : a8 p = 1) (h1 : ((a11 (p + 1) >>> (a2 p &&& 31)) &&& 1) = 0 → q = 1) (h0 : ¬ ((a11 (p + 1) >>> (a2 p &&& 31)) &&& 1) = 0 → q = 0)
    (H : post q) : wpX_isIdle post (nI 4, r, g, o, nw, lv, a1, a2, a3, a4, a5, a6, a7, a8, a9, a10, a11) (nI p) := by
  have cl : (nI p).toNatClampNeg = p := nI_clamp (by omega)
  refine ⟨pk_in p 40 (by omega), br_t (by rw [cl]; exact k) ⟨pk_in p 41 (by omega), br_f (by rw [cl]; exact du_n1 h8) (du_wb (by omega) (Or.inl k) (fun e => absurd (k.symm.trans e) (by decide)) ⟨pk_in p 40 (by omega), ?_⟩)⟩⟩
  rw [cl]
  refine br_c (fun e => ?_) (fun e => ?_)
  · rw [← h1 e]
    exact H
  · rw [← h0 e]
    exact H
theorem du_idle {post : Int32 → St2 → Prop} {p : Nat} {q : Int32} (hp : p < 3) (k : a1 p = 0) (h8 : a8 p = 1) (h1 : ((a11 (p + 1) >>> (a2 p &&& 31)) &&& 1) = 0 → q = 1) (h0 : ¬ ((a11 (p + 1) >>> (a2 p &&& 31)) &&& 1) = 0 → q = 0)
    (H : post q (nI 4, 1, 1, o, nw, lv, a1, a2, a3, a4, a5, a6, a7, a8, a9, a10, a11)) : wpX_idle post (nI 4, 1, 1, o, nw, lv, a1, a2, a3, a4, a5, a6, a7, a8, a9, a10, a11) (nI p) := by
  have n : narrow .boolean (.int q) = .int q := by
    by_cases e : ((a11 (p + 1) >>> (a2 p &&& 31)) &&& 1) = 0
    · rw [h1 e]
      rfl
    · rw [h0 e]
      rfl
  unfold wpX_idle
  exact du_pr (br_f (by decide) (du_no (by omega) (br_t rfl (du_isIdle hp k h8 h1 h0 ⟨n, H⟩))))
theorem du_wanted {post : Int32 → St2 → Prop} {p : Nat} {q : Int32} (hp : p < 4) (hq : a11 p = q) (H : post q (nI 4, 1, 1, o, nw, lv, a1, a2, a3, a4, a5, a6, a7, a8, a9, a10, a11)) : wpX_wanted post (nI 4, 1, 1, o, nw, lv, a1, a2, a3, a4, a5, a6, a7, a8, a9, a10, a11) (nI p) := by
  have cl : (nI p).toNatClampNeg = p := nI_clamp (by omega)
  unfold wpX_wanted
  refine du_pr (br_f (by decide) (du_no hp (br_t rfl ⟨pk_in p 41 (by omega), ?_⟩)))
  rw [cl, hq]
  exact H
theorem du_completes {post : Int32 → St2 → Prop} {ou : Nat} (h : a8 4 = if ou = 0 then 1 else 0) (H : post (if ou = 0 then 1 else 0) (nI 4, 1, 1, o, nw, lv, a1, a2, a3, a4, a5, a6, a7, a8, a9, a10, a11)) : wpX_completes post (nI 4, 1, 1, o, nw, lv, a1, a2, a3, a4, a5, a6, a7, a8, a9, a10, a11) := by
  have cl : (nI 4).toNatClampNeg = 4 := nI_clamp (by omega)
  unfold wpX_completes
  refine du_pr (br_f (by decide) ⟨pk_in 4 41 (by omega), ?_⟩)
  rw [cl, h]
  by_cases e : ou = 0
  · rw [if_pos e] at H ⊢
    exact br_f (by decide) H
  · rw [if_neg e] at H ⊢
    exact br_t rfl H
end
end
section
/-! the law's joints, from its end -/
section
variable {l r g o nw lv : Int32} {a1 a2 a3 a4 a5 a6 a7 a8 a9 a10 a11 : Nat → Int32} {post : Int32 → St0 → Prop} {mc ms kc ks ou x y z : Nat}
theorem du_c269 {z0 z1 z2 : Int32} (hou : ou < 2) (f : du_F ou x y z a1 a2 a7 a8 a11) (hz : z2 = z1 ||| z0) (H : post 1 ()) :
    wL_lawOf_269 post mc ms (nI ou) z0 z1 z2 kc ks (nI 4) 1 1 o nw lv a1 a2 a3 a4 a5 a6 a7 a8 a9 a10 a11 :=
  br_t hz (du_completes f.2.2.2.2.2.2.2.1 (pk_eq ou 0 (fun e => br_t (by rw [if_pos e]) H) (fun e => br_t (by rw [if_neg e]) H)))
theorem du_c243 {z0 z1 : Int32} (hou : ou < 2) (hx : x < 6) (hy : y < 6) (hz : z < 6) (f : du_F ou x y z a1 a2 a7 a8 a11) (hq : z1 = z0) (H : post 1 ()) :
    wL_lawOf_243 post mc ms (nI x) (nI y) (nI ou) (nI (du_la ou x z)) z0 z1 kc ks (nI 4) 1 1 o nw lv a1 a2 a3 a4 a5 a6 a7 a8 a9 a10 a11 := by
  have hl : du_la ou x z < 2 := by
    unfold du_la
    split <;> omega
  have hw : a11 1 = du_b y ||| (if du_la ou x z = 0 then 0 else du_b x) := (f.2.2.2.2.2.2.2.2 1 (by omega)).trans (du_p1 ou hou x hx y hy z hz)
  exact br_t hq (du_wanted (p := 1) (by omega) hw (pk_eq (du_la ou x z) 0 (fun e => du_c269 hou f (by rw [if_pos e]; rfl) H) (fun e => du_c269 hou f (by rw [if_neg e]; rfl) H)))
theorem du_c217 {z0 z1 : Int32} (hou : ou < 2) (hx : x < 6) (hy : y < 6) (hz : z < 6) (f : du_F ou x y z a1 a2 a7 a8 a11) (hq : z1 = z0) (H : post 1 ()) :
    wL_lawOf_217 post mc ms (nI x) (nI y) (nI ou) (nI (du_la ou x z)) z0 z1 kc ks (nI 4) 1 1 o nw lv a1 a2 a3 a4 a5 a6 a7 a8 a9 a10 a11 := by
  have hw : a11 0 = (if x = y then 0 else du_b y) := (f.2.2.2.2.2.2.2.2 0 (by omega)).trans (du_p0 ou hou x hx y hy z hz)
  exact br_t hq (du_wanted (p := 0) (by omega) hw (pk_eq x y (fun e => du_c243 hou hx hy hz f (by rw [if_pos e]) H) (fun e => du_c243 hou hx hy hz f (by rw [if_neg e]; rfl) H)))
theorem du_c191 {z0 z1 : Int32} (hou : ou < 2) (hx : x < 6) (hy : y < 6) (hz : z < 6) (f : du_F ou x y z a1 a2 a7 a8 a11) (hq : z1 = z0) (H : post 1 ()) :
    wL_lawOf_191 post mc ms (nI x) (nI y) (nI z) (nI ou) (nI (du_la ou x z)) z0 z1 kc ks (nI 4) 1 1 o nw lv a1 a2 a3 a4 a5 a6 a7 a8 a9 a10 a11 := by
  have hw : a11 3 = du_w3 ou x := f.2.2.2.2.2.2.2.2 3 (by omega)
  have hv : a2 2 = nI z := f.1.2.2.2.2.2.2.1
  refine br_t hq (du_idle (p := 2) (q := if ou = 0 ∧ z = x then 0 else 1) (by omega) f.1.2.2.1 f.2.2.2.2.2.1 (fun e => ?_) (fun e => ?_) (pk_eq ou 0 (fun e => pk_eq z x (fun e2 => du_c217 hou hx hy hz f ?_ H) (fun e2 => du_c217 hou hx hy hz f ?_ H)) (fun e => du_c217 hou hx hy hz f ?_ H)))
  · rw [hw, hv, du_p3 ou hou x hx z hz] at e
    rw [if_neg e]
  · rw [hw, hv, du_p3 ou hou x hx z hz] at e
    rw [if_pos (Classical.not_not.mp e)]
  · rw [if_pos ⟨e, e2⟩]
  · rw [if_neg (fun t => e2 t.2)]
  · rw [if_neg (fun t => e t.1)]
theorem du_c166 {z0 : Int32} (hou : ou < 2) (hx : x < 6) (hy : y < 6) (hz : z < 6) (f : du_F ou x y z a1 a2 a7 a8 a11) (hq : z0 = nI (du_la ou x z)) (H : post 1 ()) :
    wL_lawOf_166 post mc ms (nI x) (nI y) (nI z) (nI ou) z0 kc ks (nI 4) 1 1 o nw lv a1 a2 a3 a4 a5 a6 a7 a8 a9 a10 a11 := by
  have hl : du_la ou x z < 2 := by
    unfold du_la
    split <;> omega
  subst hq
  have hw : a11 1 = du_w1 ou x y z := f.2.2.2.2.2.2.2.2 1 (by omega)
  have hv : a2 0 = nI x := f.1.2.2.2.2.1
  refine du_idle (p := 0) (q := if y ≠ x ∧ du_la ou x z = 0 then 1 else 0) (by omega) f.1.1 f.2.2.2.1 (fun e => ?_) (fun e => ?_) (pk_eq y x (fun e => du_c191 hou hx hy hz f ?_ H) (fun e => pk_eq (du_la ou x z) 0 (fun e2 => du_c191 hou hx hy hz f ?_ H) (fun e2 => du_c191 hou hx hy hz f ?_ H)))
  · rw [hw, hv, du_p2 ou hou x hx y hy z hz] at e
    rw [if_pos e]
  · rw [hw, hv, du_p2 ou hou x hx y hy z hz] at e
    rw [if_neg e]
  · rw [if_neg (fun t => t.1 e)]
  · rw [if_pos ⟨e, e2⟩]
  · rw [if_neg (fun t => e2 t.2)]
theorem du_c144 {z0 z1 : Int32} (hou : ou < 2) (hx : x < 6) (hy : y < 6) (hz : z < 6) (f : du_F ou x y z a1 a2 a7 a8 a11) (hq : z1 = z0) (H : post 1 ()) :
    wL_lawOf_144 post mc ms (nI x) (nI y) (nI z) (nI ou) z0 z1 kc ks (nI 4) 1 1 o nw lv a1 a2 a3 a4 a5 a6 a7 a8 a9 a10 a11 := by
  refine br_t hq (pk_eq ou 0 (fun e => pk_eq z x (fun e2 => du_c166 hou hx hy hz f ?_ H) (fun e2 => du_c166 hou hx hy hz f ?_ H)) (fun e => du_c166 hou hx hy hz f ?_ H))
  · unfold du_la
    rw [if_neg (fun t => t.2 e2)]
    rfl
  · unfold du_la
    rw [if_pos ⟨e, e2⟩]
    rfl
  · unfold du_la
    rw [if_neg (fun t => e t.1)]
    rfl
theorem du_c90 {k : Nat} {w : Int32} (hou : ou < 2) (hx : x < 6) (hy : y < 6) (hz : z < 6) (hk : k ≤ 9) (hw1 : 1 < k → w = 0) (hw2 : k ≤ 1 → w = nI x)
    (K : du_K ou x y z (upd a1 3 (nI k)) (upd a2 3 w)) (H : post 1 ()) :
    wL_lawOf_90 post mc ms (nI x) (nI y) (nI z) (nI ou) (nI k) kc ks (nI 3) r g o nw lv a1 a2 a3 a4 a5 a6 a7 a8 a9 a10 a11 :=
  du_add (by omega) hk hx hw1 hw2 (fun q => du_sure1 K (fun nw lv b3 b4 b5 b7 b8 b11 f => br_t rfl (du_sure3 f (br_t rfl (du_doubts hx hy hz f (pk_eq x y (fun e => du_c144 hou hx hy hz f (by rw [if_pos e]) H) (fun e => du_c144 hou hx hy hz f (by rw [if_neg e]) H)))))))
theorem du_c75 (hou : ou < 2) (hx : x < 6) (hy : y < 6) (hz : z < 6) (h0 : a1 0 = 0) (h1 : a1 1 = 1) (h2 : a1 2 = 0) (v0 : a2 0 = nI x) (v1 : a2 1 = nI y) (v2 : a2 2 = nI z) (H : post 1 ()) :
    wL_lawOf_75 post mc ms (nI x) (nI y) (nI z) (nI ou) kc ks (nI 3) r g o nw lv a1 a2 a3 a4 a5 a6 a7 a8 a9 a10 a11 := by
  refine pk_eq ou 0 (fun e => du_c90 (k := 1) (w := nI x) hou hx hy hz (by omega) (fun t => absurd t (by omega)) (fun _ => rfl) ⟨h0, h1, h2, ?_, v0, v1, v2, fun _ => rfl⟩ H) (fun e => du_c90 (k := 9) (w := 0) hou hx hy hz (by omega) (fun _ => rfl) (fun t => absurd t (by omega)) ⟨h0, h1, h2, ?_, v0, v1, v2, fun t => absurd t e⟩ H)
  · rw [if_pos e]
    rfl
  · rw [if_neg e]
    rfl
end
theorem du_lawOf {post : Int32 → St0 → Prop} (H : post 1 ()) (p0 p1 p2 p3 : Int32) : wpL_lawOf post 224 3584 () p0 p1 p2 p3 := by
  obtain ⟨x, hx, ex⟩ := du_six p0
  obtain ⟨y, hy, ey⟩ := du_six p1
  obtain ⟨z, hz, ez⟩ := du_six p2
  refine ⟨by omega, by omega, 11, 443, by omega, by omega, ?_⟩
  refine ⟨by omega, by omega, by omega, by omega, by omega, by omega, by omega, by omega, by omega, by omega, by omega, by omega, by omega, by omega, by omega, by omega, by omega, by omega, by omega, by omega, by omega, by omega, ?_⟩
  refine ⟨by decide, nm_r ex ⟨by decide, nm_r ey ⟨by decide, nm_r ez ?_⟩⟩⟩
  refine du_add (n := 0) (k := 0) (w := nI x) (by omega) (by omega) hx (fun t => absurd t (by omega)) (fun _ => rfl) (fun q0 => ?_)
  refine du_add (n := 1) (k := 1) (w := nI y) (by omega) (by omega) hy (fun t => absurd t (by omega)) (fun _ => rfl) (fun q1 => ?_)
  refine du_add (n := 2) (k := 0) (w := nI z) (by omega) (by omega) hz (fun t => absurd t (by omega)) (fun _ => rfl) (fun q2 => ?_)
  exact br_c (fun _ => du_c75 (ou := 1) (by omega) hx hy hz rfl rfl rfl rfl rfl rfl H) (fun _ => du_c75 (ou := 0) (by omega) hx hy hz rfl rfl rfl rfl rfl rfl H)
theorem du_cell {post : Int32 → Prop} {L i : Nat} {xs : Nat → Int32} (hL : L ≤ 4) (hi : i < 4) (h : ∀ v, post v) : wpL_cellAt post L xs () (nI i) :=
  pk_le L i (fun _ => h _) (fun z => ⟨pk_in i L z, h _⟩)
theorem i_vc (xs : Nat → Int32) (L : Nat) (hL : L ≤ 4) : wpL_law (fun r => r = 1) L xs :=
  du_cell (i := 0) hL (by omega) (fun v0 => du_cell (i := 1) hL (by omega) (fun v1 => du_cell (i := 2) hL (by omega) (fun v2 => du_cell (i := 3) hL (by omega) (fun v3 => ⟨224, 3584, by omega, by omega, du_lawOf rfl v0 v1 v2 v3⟩))))
end
