section
/-- the number of a range that is nearest to zero -/
def rg_near (l h : Int32) : Int32 := if l ≤ 0 then (if 0 ≤ h then 0 else h) else l
/-- what range(x, lo, hi) does with x good: s the law's set, r the answer, the range after it -/
def rg_S (lo hi s r low high : Int32) : Prop := (s = 0 ∧ r = -1 ∧ (lo < -100 ∨ 100 < hi ∨ hi < lo) ∧ low = -100 ∧ high = 100) ∨ (s = 1 ∧ r = 0 ∧ ¬ (lo < -100 ∨ 100 < hi ∨ hi < lo) ∧ low = lo ∧ high = hi)
/-- what setCell(i, v) answers -/
def rg_O (i v r : Int32) : Prop := ((i < 0 ∨ 7 < i ∨ v < -100 ∨ 100 < v) → r = -1) ∧ (¬ (i < 0 ∨ 7 < i ∨ v < -100 ∨ 100 < v) → r = 0)
theorem rg_us0 {f : Nat → Int32} {x : Int32} : upd f (0 : Int32).toNatClampNeg x 0 = x := by
  rw [pk_cl 0]
  exact pk_us
theorem rg_fill {f s : Nat → Int32} {i k : Nat} {x : Int32} (hk : k = i) (h : ∀ j, j < i → s j = f j) (hx : x = f i) : ∀ j, j < i + 1 → upd s k x j = f j := by
  intro j hj
  subst hk
  by_cases e : j = k
  · rw [e, pk_us, hx]
  · rw [pk_un e]
    exact h j (by omega)
theorem rg_fill2 {s t : Nat → Int32} {i k : Nat} {x : Int32} (hk : k = i) (h : ∀ j, j < i → s j = t j) : ∀ j, j < i + 1 → upd s k x j = upd t k x j := by
  intro j hj
  subst hk
  by_cases e : j = k
  · rw [e, pk_us, pk_us]
  · rw [pk_un e, pk_un e]
    exact h j (by omega)
theorem rg_o1 {lo hi : Int32} (h : lo < -100 ∨ 100 < lo) : lo < -100 ∨ 100 < hi ∨ hi < lo := by
  simp only [Int32.lt_iff_toInt_lt] at *
  omega
theorem rg_o2 {lo hi : Int32} (h0 : ¬ (lo < -100 ∨ 100 < lo)) (h : hi < -100 ∨ 100 < hi) : lo < -100 ∨ 100 < hi ∨ hi < lo := by
  simp only [Int32.lt_iff_toInt_lt] at *
  omega
theorem rg_o3 {lo hi : Int32} (h1 : ¬ (lo < -100 ∨ 100 < lo)) (h2 : ¬ (hi < -100 ∨ 100 < hi)) (h3 : lo ≤ hi) : ¬ (lo < -100 ∨ 100 < hi ∨ hi < lo) := by
  simp only [Int32.lt_iff_toInt_lt, Int32.le_iff_toInt_le] at *
  omega
theorem rg_bad_out {post : Int32 → Prop} {fs fe fp fc fk fm : Int32} {a1 a2 a3 a4 a5 a6 a7 a8 a9 a10 a11 a12 a13 a14 a15 a16 : Nat → Int32} {p : Int32} (h : p < 0 ∨ 3 < p) (H : post 1) : wpX_bad post (fs, fe, fp, fc, fk, fm, a1, a2, a3, a4, a5, a6, a7, a8, a9, a10, a11, a12, a13, a14, a15, a16) p :=
  br_c (fun _ => H) (fun z => br_f (Int32.not_le.mpr (h.resolve_left z)) H)
theorem rg_bad_in {post : Int32 → Prop} {fs fe fp fc fk fm : Int32} {a1 a2 a3 a4 a5 a6 a7 a8 a9 a10 a11 a12 a13 a14 a15 a16 : Nat → Int32} {j : Nat} (hj : j < 4) (H : post 0) : wpX_bad post (fs, fe, fp, fc, fk, fm, a1, a2, a3, a4, a5, a6, a7, a8, a9, a10, a11, a12, a13, a14, a15, a16) (nI j) :=
  br_f (nI_pos (by omega)) (pk_le j 3 (fun _ => H) (fun z => absurd z (by omega)))
theorem rg_bn_out {post : Int32 → Prop} {fs fe fp fc fk fm : Int32} {a1 a2 a3 a4 a5 a6 a7 a8 a9 a10 a11 a12 a13 a14 a15 a16 : Nat → Int32} {k : Int32} (h : k < -100 ∨ 100 < k) (H : post 1) : wpX_badNumber post (fs, fe, fp, fc, fk, fm, a1, a2, a3, a4, a5, a6, a7, a8, a9, a10, a11, a12, a13, a14, a15, a16) k :=
  br_c (fun _ => H) (fun z => br_f (Int32.not_le.mpr (h.resolve_left z)) H)
theorem rg_bn_in {post : Int32 → Prop} {fs fe fp fc fk fm : Int32} {a1 a2 a3 a4 a5 a6 a7 a8 a9 a10 a11 a12 a13 a14 a15 a16 : Nat → Int32} {k : Int32} (h : ¬ (k < -100 ∨ 100 < k)) (H : post 0) : wpX_badNumber post (fs, fe, fp, fc, fk, fm, a1, a2, a3, a4, a5, a6, a7, a8, a9, a10, a11, a12, a13, a14, a15, a16) k :=
  br_f (fun z => h (Or.inl z)) (br_t (Int32.not_lt.mp (fun z => h (Or.inr z))) H)
theorem rg_range_out {post : Int32 → St2 → Prop} {fs fe fp fc fk fm : Int32} {a1 a2 a3 a4 a5 a6 a7 a8 a9 a10 a11 a12 a13 a14 a15 a16 : Nat → Int32} {p lo hi : Int32} (h : p < 0 ∨ 3 < p) (H : post (-1) (fs, fe, fp, fc, fk, fm, a1, a2, a3, a4, a5, a6, a7, a8, a9, a10, a11, a12, a13, a14, a15, a16)) : wpX_range post (fs, fe, fp, fc, fk, fm, a1, a2, a3, a4, a5, a6, a7, a8, a9, a10, a11, a12, a13, a14, a15, a16) p lo hi := by
  unfold wpX_range
  exact rg_bad_out h (br_f (by decide) H)
theorem rg_range_in {post : Int32 → St2 → Prop} {fs fe fp fc fm : Int32} {a1 a2 a3 a4 a5 a6 a7 a8 a9 a10 a11 a12 a13 a14 a15 a16 : Nat → Int32} {j : Nat} {lo hi : Int32} (hj : j < 4) (h1 : a1 j = -100) (h2 : a2 j = 100)
    (H : ∀ s r low high b1 b2, rg_S lo hi s r low high → b1 j = low → b2 j = high → post r (fs, fe, fp, fc, 0, fm, b1, b2, a3, a4, a5, a6, a7, a8, a9, a10, a11, a12, a13, a14, a15, a16)) : wpX_range post (fs, fe, fp, fc, 0, fm, a1, a2, a3, a4, a5, a6, a7, a8, a9, a10, a11, a12, a13, a14, a15, a16) (nI j) lo hi := by
  have N : (lo < -100 ∨ 100 < hi ∨ hi < lo) → post (-1) (fs, fe, fp, fc, 0, fm, a1, a2, a3, a4, a5, a6, a7, a8, a9, a10, a11, a12, a13, a14, a15, a16) := fun z => H 0 (-1) (-100) 100 a1 a2 (Or.inl ⟨rfl, rfl, z, rfl, rfl⟩) h1 h2
  unfold wpX_range
  refine rg_bad_in hj (br_t rfl ?_)
  by_cases c1 : lo < -100 ∨ 100 < lo
  · exact rg_bn_out c1 (br_f (by decide) (N (rg_o1 c1)))
  · refine rg_bn_in c1 (br_t rfl ?_)
    by_cases c2 : hi < -100 ∨ 100 < hi
    · exact rg_bn_out c2 (br_f (by decide) (N (rg_o2 c1 c2)))
    · refine rg_bn_in c2 (br_t rfl (br_c (fun c3 => ?_) (fun c3 => N (Or.inr (Or.inr (Int32.not_le.mp c3))))))
      exact ⟨pk_in j 4 hj, nm_e ⟨pk_in j 4 hj, nm_e (H 1 0 lo hi _ _ (Or.inr ⟨rfl, rfl, rg_o3 c1 c2 c3, rfl, rfl⟩) (by rw [nI_clamp (by omega), pk_us]) (by rw [nI_clamp (by omega), pk_us]))⟩⟩
theorem rg_const_out {post : Int32 → St2 → Prop} {fs fe fp fc fk fm : Int32} {a1 a2 a3 a4 a5 a6 a7 a8 a9 a10 a11 a12 a13 a14 a15 a16 : Nat → Int32} {p k : Int32} (h : p < 0 ∨ 3 < p) (H : post (-1) (fs, fe, fp, fc, fk, fm, a1, a2, a3, a4, a5, a6, a7, a8, a9, a10, a11, a12, a13, a14, a15, a16)) : wpX_constant post (fs, fe, fp, fc, fk, fm, a1, a2, a3, a4, a5, a6, a7, a8, a9, a10, a11, a12, a13, a14, a15, a16) p k := by
  unfold wpX_constant
  exact rg_bad_out h (br_f (by decide) H)
theorem rg_const_no {post : Int32 → St2 → Prop} {fs fe fp fc fk fm : Int32} {a1 a2 a3 a4 a5 a6 a7 a8 a9 a10 a11 a12 a13 a14 a15 a16 : Nat → Int32} {j : Nat} {k : Int32} (hj : j < 4) (h : k < -100 ∨ 100 < k) (H : post (-1) (fs, fe, fp, fc, fk, fm, a1, a2, a3, a4, a5, a6, a7, a8, a9, a10, a11, a12, a13, a14, a15, a16)) : wpX_constant post (fs, fe, fp, fc, fk, fm, a1, a2, a3, a4, a5, a6, a7, a8, a9, a10, a11, a12, a13, a14, a15, a16) (nI j) k := by
  unfold wpX_constant
  exact rg_bad_in hj (br_t rfl (rg_bn_out h (br_f (by decide) H)))
theorem rg_const_in {post : Int32 → St2 → Prop} {fe fp fc fk fm : Int32} {a1 a2 a3 a4 a5 a6 a7 a8 a9 a10 a11 a12 a13 a14 a15 a16 : Nat → Int32} {j : Nat} {k : Int32} (hj : j < 4) (h : ¬ (k < -100 ∨ 100 < k))
    (H : ∀ r n b3 b4 b5 b6, r = 0 → n = 1 → b3 0 = 0 → b4 0 = nI j → b6 0 = k → post r (n, fe, fp, fc, 0, fm, a1, a2, b3, b4, b5, b6, a7, a8, a9, a10, a11, a12, a13, a14, a15, a16)) : wpX_constant post (0, fe, fp, fc, fk, fm, a1, a2, a3, a4, a5, a6, a7, a8, a9, a10, a11, a12, a13, a14, a15, a16) (nI j) k := by
  unfold wpX_constant
  refine rg_bad_in hj (br_t rfl (rg_bn_in h (br_t rfl ?_)))
  unfold wpX_append
  exact br_f (by decide) ⟨pk_in 0 14 (by omega), nm_e ⟨pk_in 0 14 (by omega), nm_e ⟨pk_in 0 14 (by omega), nm_e ⟨pk_in 0 14 (by omega), nm_e (nm_e (H _ _ _ _ _ _ (by decide) (by decide) rg_us0 rg_us0 rg_us0))⟩⟩⟩⟩
theorem rg_var_out {post : Int32 → Prop} {fs fe fp fc fk fm : Int32} {a1 a2 a3 a4 a5 a6 a7 a8 a9 a10 a11 a12 a13 a14 a15 a16 : Nat → Int32} {p : Int32} (h : p < 0 ∨ 3 < p) (H : post 0) : wpX_variable post (fs, fe, fp, fc, fk, fm, a1, a2, a3, a4, a5, a6, a7, a8, a9, a10, a11, a12, a13, a14, a15, a16) p := by
  unfold wpX_variable
  exact rg_bad_out h (br_f (by decide) H)
theorem rg_var_in {post : Int32 → Prop} {fs fe fp fc fk fm : Int32} {a1 a2 a3 a4 a5 a6 a7 a8 a9 a10 a11 a12 a13 a14 a15 a16 : Nat → Int32} {j : Nat} (hj : j < 4) (H : post (a8 j)) : wpX_variable post (fs, fe, fp, fc, fk, fm, a1, a2, a3, a4, a5, a6, a7, a8, a9, a10, a11, a12, a13, a14, a15, a16) (nI j) := by
  unfold wpX_variable
  refine rg_bad_in hj (br_t rfl ⟨pk_in j 4 hj, ?_⟩)
  rw [nI_clamp (by omega)]
  exact H
theorem rg_cell_set {post : Int32 → St2 → Prop} {fs fe fp fc fk fm : Int32} {a1 a2 a3 a4 a5 a6 a7 a8 a9 a10 a11 a12 a13 a14 a15 a16 : Nat → Int32} {i v : Int32} (h7 : ∀ j, a7 j = 0) (H : ∀ r b7, rg_O i v r → post r (fs, fe, fp, fc, fk, fm, a1, a2, a3, a4, a5, a6, b7, a8, a9, a10, a11, a12, a13, a14, a15, a16)) : wpX_setCell post (fs, fe, fp, fc, fk, fm, a1, a2, a3, a4, a5, a6, a7, a8, a9, a10, a11, a12, a13, a14, a15, a16) i v := by
  have N : (i < 0 ∨ 7 < i ∨ v < -100 ∨ 100 < v) → post (-1) (fs, fe, fp, fc, fk, fm, a1, a2, a3, a4, a5, a6, a7, a8, a9, a10, a11, a12, a13, a14, a15, a16) := fun z => H (-1) a7 ⟨fun _ => rfl, fun y => absurd z y⟩
  unfold wpX_setCell
  refine br_c (fun c => N (Or.inl c)) (fun c1 => br_c (fun c => N (Or.inr (Or.inl c))) (fun c2 => ?_))
  by_cases c3 : v < -100 ∨ 100 < v
  · exact rg_bn_out c3 (br_f (by decide) (N (Or.inr (Or.inr c3))))
  · have V : vp_in i 8 := by
      obtain ⟨m, hm, e⟩ := nI_of2 (M := 7) (n := 7) (by decide) c1 (Int32.not_lt.mp c2)
      exact pk_in m 8 (by omega) e
    refine rg_bn_in c3 (br_t rfl ⟨V, nm_e ⟨V, nm_e (H _ _ ⟨fun z => ?_, fun _ => h7 _⟩)⟩⟩)
    exact absurd z (fun z => z.elim c1 (fun z => z.elim c2 c3))
theorem rg_cellAt {post : Int32 → Prop} {L : Nat} {xs : Nat → Int32} {p : Int32} (i : Nat) (hi : i < 6) (hL : L ≤ 6) (hp : p = nI i) (H : ∀ r, post r) : wpL_cellAt post L xs () p := by
  subst hp
  exact pk_le L i (fun _ => H 0) (fun z => ⟨pk_in i L z, H _⟩)
theorem rg_init {post : St2 → Prop} (H : ∀ b1 b2, (∀ j, j < 4 → b1 j = -100) → (∀ j, j < 4 → b2 j = 100) → post (0, 0, -1, 0, 0, 0, b1, b2, fun _ => 0, fun _ => 0, fun _ => 0, fun _ => 0, fun _ => 0, fun _ => 0, fun _ => 0, fun _ => 0, fun _ => 0, fun _ => 0, fun _ => 0, fun _ => 0, fun _ => 0, fun _ => 0)) : wpX_init post 16 262 (0, 0, 0, 0, 0, 0) := by
  unfold wpX_init
  refine ⟨by decide, by decide, by decide, by decide, by decide, by decide, by decide, by decide, by decide, by decide, by decide, by decide, by decide, by decide, by decide, by decide, by decide, by decide, by decide, by decide, by decide, by decide, by decide, by decide, by decide, by decide, by decide, by decide, by decide, by decide, by decide, by decide, ?_⟩
  exact pk_loop (σ := (Nat → Int32) × (Nat → Int32)) (fun n i s => wX_init_129 post 16 262 16 262 0 0 0 0 0 0 n (nI i) s.1 s.2 (fun _ => 0) (fun _ => 0) (fun _ => 0) (fun _ => 0) (fun _ => 0) (fun _ => 0) (fun _ => 0) (fun _ => 0) (fun _ => 0) (fun _ => 0) (fun _ => 0) (fun _ => 0) (fun _ => 0) (fun _ => 0)) (fun i s => (∀ j, j < i → s.1 j = -100) ∧ (∀ j, j < i → s.2 j = 100)) 4 0 (fun _ => 0, fun _ => 0) (by omega) ⟨fun j hj => absurd hj (by omega), fun j hj => absurd hj (by omega)⟩
    (fun n s h => pk_le 4 4 (fun _ => H s.1 s.2 h.1 h.2) (fun z => absurd z (by omega)))
    (fun n i s hi h hw => pk_le 4 i (fun z => absurd z (by omega)) (fun _ => ⟨pk_in i 4 hi, nm_e ⟨pk_in i 4 hi, nm_e (nm_r (nI_1 i) (hw (_, _) ⟨rg_fill (f := fun _ => -100) (nI_clamp (by omega)) h.1 rfl, rg_fill (f := fun _ => 100) (nI_clamp (by omega)) h.2 rfl⟩))⟩⟩))
end
section
theorem rg_poss {post : Int32 → Prop} {fs fe fp fc fk fm : Int32} {a1 a2 a3 a4 a5 a6 a7 a8 a9 a10 a11 a12 a13 a14 a15 a16 : Nat → Int32} (H : ∀ r, post r) : wpX_possible post (fs, fe, fp, fc, fk, fm, a1, a2, a3, a4, a5, a6, a7, a8, a9, a10, a11, a12, a13, a14, a15, a16) :=
  pk_loop (σ := Unit) (fun n i _ => wX_possible_2 post fs fe fp fc fk fm a1 a2 a3 a4 a5 a6 a7 a8 a9 a10 a11 a12 a13 a14 a15 a16 n (nI i)) (fun _ _ => True) 4 0 () (by omega) trivial
    (fun n _ _ => pk_le 4 4 (fun _ => H 1) (fun z => absurd z (by omega)))
    (fun n i _ hi _ hw => pk_le 4 i (fun z => absurd z (by omega)) (fun _ => ⟨pk_in i 4 hi, pk_in i 4 hi, br_c (fun _ => nm_r (nI_1 i) (hw () trivial)) (fun _ => H 0)⟩))
theorem rg_poss1 {post : Int32 → Prop} {fs fe fp fc fk fm : Int32} {a1 a2 a3 a4 a5 a6 a7 a8 a9 a10 a11 a12 a13 a14 a15 a16 : Nat → Int32} (h : ∀ j, j < 4 → a15 j = a16 j) (H : post 1) : wpX_possible post (fs, fe, fp, fc, fk, fm, a1, a2, a3, a4, a5, a6, a7, a8, a9, a10, a11, a12, a13, a14, a15, a16) :=
  pk_loop (σ := Unit) (fun n i _ => wX_possible_2 post fs fe fp fc fk fm a1 a2 a3 a4 a5 a6 a7 a8 a9 a10 a11 a12 a13 a14 a15 a16 n (nI i)) (fun _ _ => True) 4 0 () (by omega) trivial
    (fun n _ _ => pk_le 4 4 (fun _ => H) (fun z => absurd z (by omega)))
    (fun n i _ hi _ hw => pk_le 4 i (fun z => absurd z (by omega)) (fun _ => ⟨pk_in i 4 hi, pk_in i 4 hi, br_t (by rw [nI_clamp (by omega), h i hi]; exact Int32.le_refl _) (nm_r (nI_1 i) (hw () trivial))⟩))
theorem rg_arr_out {post : St2 → Prop} {fs fe fp fc fk fm : Int32} {a1 a2 a3 a4 a5 a6 a7 a8 a9 a10 a11 a12 a13 a14 a15 a16 : Nat → Int32} {t : Int32} (h : fs ≤ t) (H : post (fs, fe, fp, fc, fk, fm, a1, a2, a3, a4, a5, a6, a7, a8, a9, a10, a11, a12, a13, a14, a15, a16)) : wpX_arrive post (fs, fe, fp, fc, fk, fm, a1, a2, a3, a4, a5, a6, a7, a8, a9, a10, a11, a12, a13, a14, a15, a16) t := by
  unfold wpX_arrive
  exact rg_poss (fun r => br_t h H)
theorem rg_arr53 {post : St2 → Prop} {fs fe fp fc fk fm : Int32} {a1 a2 a3 a4 a5 a6 a7 a8 a9 a10 a11 a12 a13 a14 a15 a16 : Nat → Int32} (h9 : a9 0 = 0) (H : ∀ b9 b10 b11 b12, ¬ b9 0 = 0 → post (fs, fe, fp, fc, fk, 1, a1, a2, a3, a4, a5, a6, a7, a8, b9, b10, b11, b12, a13, a14, a15, a16)) : ∃ n, wX_arrive_53 post 0 0 fs fe fp fc fk fm n 1 0 a1 a2 a3 a4 a5 a6 a7 a8 a9 a10 a11 a12 a13 a14 a15 a16 :=
  pk_loop (σ := (Nat → Int32) × (Nat → Int32)) (fun n i s => wX_arrive_53 post 0 0 fs fe fp fc fk fm n 1 (nI i) a1 a2 a3 a4 a5 a6 a7 a8 a9 s.1 s.2 a12 a13 a14 a15 a16) (fun _ _ => True) 4 0 (a10, a11) (by omega) trivial
    (fun n s _ => pk_le 4 4 (fun _ => ⟨pk_in 0 15 (by omega), nm_e (br_f (by decide) ⟨pk_in 0 15 (by omega), pk_in 0 15 (by omega), nm_e (H _ _ _ _ (by rw [rg_us0]; decide))⟩)⟩) (fun z => absurd z (by omega)))
    (fun n i s hi _ hw => pk_le 4 i (fun z => absurd z (by omega)) (fun _ => nm_r (e' := nI i) (by rw [Int32.zero_mul, Int32.zero_add]) ⟨pk_in 0 15 (by omega), br_t (by rw [pk_cl 0, h9]) ⟨pk_in i 4 hi, pk_in i 60 (by omega), nm_e ⟨pk_in i 4 hi, pk_in i 60 (by omega), nm_e (nm_r (nI_1 i) (hw (_, _) trivial))⟩⟩⟩))
theorem rg_arr0 {post : St2 → Prop} {fe fp fc fk fm : Int32} {a1 a2 a3 a4 a5 a6 a7 a8 a9 a10 a11 a12 a13 a14 a15 a16 : Nat → Int32} (h9 : a9 0 = 0) (h12 : a12 0 = 0) (h : ∀ j, j < 4 → a15 j = a16 j) (H : ∀ b9 b10 b11 b12, ¬ b9 0 = 0 → post (1, fe, fp, fc, fk, 1, a1, a2, a3, a4, a5, a6, a7, a8, b9, b10, b11, b12, a13, a14, a15, a16)) : wpX_arrive post (1, fe, fp, fc, fk, fm, a1, a2, a3, a4, a5, a6, a7, a8, a9, a10, a11, a12, a13, a14, a15, a16) 0 := by
  unfold wpX_arrive
  refine rg_poss1 h (br_f (by decide) (br_f (by decide) ⟨pk_in 0 15 (by omega), br_t ?_ ?_⟩))
  · rw [pk_cl 0, h12]
    decide
  · unfold wX_arrive_33
    exact ⟨pk_in 0 15 (by omega), br_t (by rw [pk_cl 0, h9]) (rg_arr53 h9 H)⟩
theorem rg_take {post : St2 → Prop} {fs fe fp fc fk fm : Int32} {a1 a2 a3 a4 a5 a6 a7 a8 a9 a10 a11 a12 a13 a14 a15 a16 : Nat → Int32} (H : ∀ b15 b16, post (fs, fe, fp, fc, fk, fm, a1, a2, a3, a4, a5, a6, a7, a8, a9, a10, a11, a12, a13, a14, b15, b16)) : wpX_take post (fs, fe, fp, fc, fk, fm, a1, a2, a3, a4, a5, a6, a7, a8, a9, a10, a11, a12, a13, a14, a15, a16) 0 := by
  have V : ∀ i, i < 4 → vp_in (((0 : Int32) * 4) + nI i) 60 := fun i hi => by
    rw [Int32.zero_mul, Int32.zero_add]
    exact pk_in i 60 (by omega)
  unfold wpX_take
  exact pk_loop (σ := (Nat → Int32) × (Nat → Int32)) (fun n i s => wX_take_2 post 0 fs fe fp fc fk fm n (nI i) a1 a2 a3 a4 a5 a6 a7 a8 a9 a10 a11 a12 a13 a14 s.1 s.2) (fun _ _ => True) 4 0 (a15, a16) (by omega) trivial
    (fun n s _ => pk_le 4 4 (fun _ => H s.1 s.2) (fun z => absurd z (by omega)))
    (fun n i s hi _ hw => pk_le 4 i (fun z => absurd z (by omega)) (fun _ => ⟨V i hi, pk_in i 4 hi, nm_e ⟨V i hi, pk_in i 4 hi, nm_e (nm_r (nI_1 i) (hw (_, _) trivial))⟩⟩))
theorem rg_get57 {post : St2 → Prop} {fs fe fp fc fk fm : Int32} {a1 a2 a3 a4 a5 a6 a7 a8 a9 a10 a11 a12 a13 a14 a15 a16 : Nat → Int32} {j : Nat} {x4 z0 : Int32} (hj : j < 4) (H : ∀ b15 b16, post (fs, fe, fp, fc, fk, fm, a1, a2, a3, a4, a5, a6, a7, a8, a9, a10, a11, a12, a13, a14, b15, b16)) : wX_get_57 post (nI j) x4 z0 (nI j) fs fe fp fc fk fm a1 a2 a3 a4 a5 a6 a7 a8 a9 a10 a11 a12 a13 a14 a15 a16 := by
  unfold wX_get_57
  exact ⟨pk_in j 4 hj, nm_e ⟨pk_in j 4 hj, br_c (fun _ => ⟨pk_in j 4 hj, pk_in j 4 hj, nm_e (H _ _)⟩) (fun _ => ⟨pk_in j 4 hj, nm_e (H _ _)⟩)⟩⟩
theorem rg_get31 {post : St2 → Prop} {fs fe fp fc fk fm : Int32} {a1 a2 a3 a4 a5 a6 a7 a8 a9 a10 a11 a12 a13 a14 a15 a16 : Nat → Int32} {j : Nat} {x3 x4 z0 : Int32} (hj : j < 4) (H : ∀ b13 b15 b16, b13 0 = vp_nar .boolean z0 → post (fs, fe, fp, fc, fk, fm, a1, a2, a3, a4, a5, a6, a7, a8, a9, a10, a11, a12, b13, a14, b15, b16)) : wX_get_31 post (nI j) x3 x4 z0 0 fs fe fp fc fk fm a1 a2 a3 a4 a5 a6 a7 a8 a9 a10 a11 a12 a13 a14 a15 a16 := by
  unfold wX_get_31
  exact ⟨pk_in 0 14 (by omega), nm_e ⟨pk_in j 4 hj, br_c (fun _ => ⟨pk_in j 4 hj, rg_get57 hj (fun b15 b16 => H _ b15 b16 rg_us0)⟩) (fun _ => rg_get57 hj (fun b15 b16 => H _ b15 b16 rg_us0))⟩⟩
theorem rg_get {post : St2 → Prop} {fs fe fp fc fk fm : Int32} {a1 a2 a3 a4 a5 a6 a7 a8 a9 a10 a11 a12 a13 a14 a15 a16 : Nat → Int32} {j : Nat} {k : Int32} (hj : j < 4) (H : ∀ b13 b15 b16, (¬ b13 0 = 0 → ¬ k < a1 j ∧ ¬ a2 j < k) → post (fs, fe, fp, fc, fk, fm, a1, a2, a3, a4, a5, a6, a7, a8, a9, a10, a11, a12, b13, a14, b15, b16)) : wpX_get post (fs, fe, fp, fc, fk, fm, a1, a2, a3, a4, a5, a6, a7, a8, a9, a10, a11, a12, a13, a14, a15, a16) 0 (nI j) k k := by
  have N : wX_get_31 post (nI j) k k 0 0 fs fe fp fc fk fm a1 a2 a3 a4 a5 a6 a7 a8 a9 a10 a11 a12 a13 a14 a15 a16 := rg_get31 hj (fun b13 b15 b16 e => H b13 b15 b16 (fun z => absurd (e.trans (by decide)) z))
  unfold wpX_get
  rw [nI_clamp (show j < 2 ^ 31 by omega)]
  exact ⟨pk_in j 4 hj, br_c (fun _ => N) (fun c1 => ⟨pk_in j 4 hj, br_c (fun _ => N) (fun c2 => rg_get31 hj (fun b13 b15 b16 _ => H b13 b15 b16 (fun _ => ⟨c1, c2⟩)))⟩)⟩
theorem rg_follow {post : St2 → Prop} {fe fp fc fk fm : Int32} {a1 a2 a3 a4 a5 a6 a7 a8 a9 a10 a11 a12 a13 a14 a15 a16 : Nat → Int32} {j : Nat} {k : Int32} (hj : j < 4) (h3 : a3 0 = 0) (h4 : a4 0 = nI j) (h6 : a6 0 = k) (H : ∀ b13 b15 b16, (¬ b13 0 = 0 → ¬ k < a1 j ∧ ¬ a2 j < k) → post (1, fe, fp, fc, fk, fm, a1, a2, a3, a4, a5, a6, a7, a8, a9, a10, a11, a12, b13, a14, b15, b16)) : wpX_followOne post (1, fe, fp, fc, fk, fm, a1, a2, a3, a4, a5, a6, a7, a8, a9, a10, a11, a12, a13, a14, a15, a16) 0 := by
  unfold wpX_followOne
  refine rg_take (fun b15 b16 => ?_)
  refine And.intro (pk_in 0 14 (by omega)) (nm_r (e' := 0) (by rw [pk_cl 0, h3]) ⟨pk_in 0 14 (by omega), nm_r (e' := nI j) (by rw [pk_cl 0, h4]) ⟨pk_in 0 14 (by omega), nm_e ⟨pk_in 0 14 (by omega), nm_r (e' := k) (by rw [pk_cl 0, h6]) ?_⟩⟩⟩)
  exact br_f (by decide) (br_t (by decide) (br_t rfl (rg_get hj (fun c13 c15 c16 hc => rg_arr_out (by decide) (H c13 c15 c16 hc)))))
theorem rg_an81 {post : St2 → Prop} {fe fp fc fk : Int32} {a1 a2 a3 a4 a5 a6 a7 a8 a9 a10 a11 a12 a13 a14 a15 a16 : Nat → Int32} {j : Nat} {k : Int32} (hj : j < 4) (h3 : a3 0 = 0) (h4 : a4 0 = nI j) (h6 : a6 0 = k) (h9 : ¬ a9 0 = 0) (H : ∀ b13 b15 b16, (¬ b13 0 = 0 → ¬ k < a1 j ∧ ¬ a2 j < k) → post (1, fe, fp, fc, 1, 0, a1, a2, a3, a4, a5, a6, a7, a8, a9, a10, a11, a12, b13, a14, b15, b16)) : ∃ n, wX_analyse_81 post n 0 1 fe fp fc fk 1 a1 a2 a3 a4 a5 a6 a7 a8 a9 a10 a11 a12 a13 a14 a15 a16 := by
  refine ⟨0 + 1 + 1, br_f (by decide) (br_f (by decide) ⟨0 + 1 + 1, br_f (by decide) ⟨pk_in 0 15 (by omega), br_f (by rw [pk_cl 0]; exact h9) ?_⟩⟩)⟩
  exact rg_follow hj h3 h4 h6 (fun b13 b15 b16 hc => nm_r (e' := 1) rfl (br_t (by decide) (nm_r (e' := 1) rfl (br_f (by decide) (br_t rfl (H b13 b15 b16 hc))))))
theorem rg_ntz {post : Int32 → Prop} {fs fe fp fc fk fm : Int32} {a1 a2 a3 a4 a5 a6 a7 a8 a9 a10 a11 a12 a13 a14 a15 a16 : Nat → Int32} {j : Nat} (hj : j < 4) (H : post (rg_near (a1 j) (a2 j))) : wpX_nearestToZero post (fs, fe, fp, fc, fk, fm, a1, a2, a3, a4, a5, a6, a7, a8, a9, a10, a11, a12, a13, a14, a15, a16) (nI j) := by
  unfold wpX_nearestToZero
  rw [nI_clamp (show j < 2 ^ 31 by omega)]
  refine ⟨pk_in j 4 hj, br_c (fun h1 => ⟨pk_in j 4 hj, br_c (fun h2 => ?_) (fun h2 => ⟨pk_in j 4 hj, ?_⟩)⟩) (fun h1 => ⟨pk_in j 4 hj, ?_⟩)⟩
  · have e : rg_near (a1 j) (a2 j) = 0 := by unfold rg_near; rw [if_pos h1, if_pos h2]
    rw [e] at H
    exact H
  · have e : rg_near (a1 j) (a2 j) = a2 j := by unfold rg_near; rw [if_pos h1, if_neg h2]
    rw [e] at H
    exact H
  · have e : rg_near (a1 j) (a2 j) = a1 j := by unfold rg_near; rw [if_neg h1]
    rw [e] at H
    exact H
theorem rg_an38a {post : St2 → Prop} {fe fp fc fk fm : Int32} {a1 a2 a3 a4 a5 a6 a7 a8 a9 a10 a11 a12 a13 a14 a15 a16 : Nat → Int32} (H : ∀ b15 b16, post (0, fe, fp, fc, 1, 0, a1, a2, a3, a4, a5, a6, a7, a8, a9, a10, a11, a12, a13, a14, b15, b16)) : ∃ n, wX_analyse_38 post 0 fe fp fc fk fm n 0 a1 a2 a3 a4 a5 a6 a7 a8 a9 a10 a11 a12 a13 a14 a15 a16 :=
  pk_loop (σ := (Nat → Int32) × (Nat → Int32)) (fun n i s => wX_analyse_38 post 0 fe fp fc fk fm n (nI i) a1 a2 a3 a4 a5 a6 a7 a8 a9 a10 a11 a12 a13 a14 s.1 s.2) (fun i s => ∀ j, j < i → s.1 j = s.2 j) 4 0 (a15, a16) (by omega) (fun j hj => absurd hj (by omega))
    (fun n s h => pk_le 4 4 (fun _ => rg_arr_out (by decide) (Exists.intro (0 + 1) (br_f (by decide) (br_t rfl (H s.1 s.2))))) (fun z => absurd z (by omega)))
    (fun n i s hi h hw => pk_le 4 i (fun z => absurd z (by omega)) (fun _ => rg_ntz hi ⟨pk_in i 4 hi, nm_e ⟨pk_in i 4 hi, nm_e (nm_r (nI_1 i) (hw (_, _) (rg_fill2 (nI_clamp (by omega)) h)))⟩⟩))
theorem rg_an_0 {post : St2 → Prop} {fe fp fc fm : Int32} {a1 a2 a3 a4 a5 a6 a7 a8 a9 a10 a11 a12 a13 a14 a15 a16 : Nat → Int32} (H : ∀ b9 b12 b15 b16, post (0, fe, fp, fc, 1, 0, a1, a2, a3, a4, a5, a6, a7, a8, b9, a10, a11, b12, a13, a14, b15, b16)) : wpX_analyse post (0, fe, fp, fc, 0, fm, a1, a2, a3, a4, a5, a6, a7, a8, a9, a10, a11, a12, a13, a14, a15, a16) := by
  unfold wpX_analyse
  refine br_t rfl ?_
  exact pk_loop (σ := (Nat → Int32) × (Nat → Int32)) (fun n i s => wX_analyse_10 post 0 fe fp fc 0 fm n (nI i) a1 a2 a3 a4 a5 a6 a7 a8 s.1 a10 a11 s.2 a13 a14 a15 a16) (fun i s => (∀ j, j < i → s.1 j = 0) ∧ (∀ j, j < i → s.2 j = 0)) 15 0 (a9, a12) (by omega) ⟨fun j hj => absurd hj (by omega), fun j hj => absurd hj (by omega)⟩
    (fun n s h => pk_le 15 15 (fun _ => rg_an38a (fun b15 b16 => H s.1 s.2 b15 b16)) (fun z => absurd z (by omega)))
    (fun n i s hi h hw => pk_le 15 i (fun z => absurd z (by omega)) (fun _ => ⟨pk_in i 15 hi, nm_e ⟨pk_in i 15 hi, nm_e (nm_r (nI_1 i) (hw (_, _) ⟨rg_fill (f := fun _ => 0) (nI_clamp (by omega)) h.1 rfl, rg_fill (f := fun _ => 0) (nI_clamp (by omega)) h.2 rfl⟩))⟩⟩))
theorem rg_an38b {post : St2 → Prop} {fe fp fc fk fm : Int32} {a1 a2 a3 a4 a5 a6 a7 a8 a9 a10 a11 a12 a13 a14 a15 a16 : Nat → Int32} {j : Nat} {k : Int32} (hj : j < 4) (h3 : a3 0 = 0) (h4 : a4 0 = nI j) (h6 : a6 0 = k) (h9 : a9 0 = 0) (h12 : a12 0 = 0) (H : ∀ b9 b10 b11 b12 b13 b15 b16, (¬ b13 0 = 0 → ¬ k < a1 j ∧ ¬ a2 j < k) → post (1, fe, fp, fc, 1, 0, a1, a2, a3, a4, a5, a6, a7, a8, b9, b10, b11, b12, b13, a14, b15, b16)) : ∃ n, wX_analyse_38 post 1 fe fp fc fk fm n 0 a1 a2 a3 a4 a5 a6 a7 a8 a9 a10 a11 a12 a13 a14 a15 a16 :=
  pk_loop (σ := (Nat → Int32) × (Nat → Int32)) (fun n i s => wX_analyse_38 post 1 fe fp fc fk fm n (nI i) a1 a2 a3 a4 a5 a6 a7 a8 a9 a10 a11 a12 a13 a14 s.1 s.2) (fun i s => ∀ j, j < i → s.1 j = s.2 j) 4 0 (a15, a16) (by omega) (fun j hj => absurd hj (by omega))
    (fun n s h => pk_le 4 4 (fun _ => rg_arr0 h9 h12 h (fun b9 b10 b11 b12 z => rg_an81 hj h3 h4 h6 z (fun b13 b15 b16 hc => H b9 b10 b11 b12 b13 b15 b16 hc))) (fun z => absurd z (by omega)))
    (fun n i s hi h hw => pk_le 4 i (fun z => absurd z (by omega)) (fun _ => rg_ntz hi ⟨pk_in i 4 hi, nm_e ⟨pk_in i 4 hi, nm_e (nm_r (nI_1 i) (hw (_, _) (rg_fill2 (nI_clamp (by omega)) h)))⟩⟩))
theorem rg_an_1 {post : St2 → Prop} {fe fp fc fm : Int32} {a1 a2 a3 a4 a5 a6 a7 a8 a9 a10 a11 a12 a13 a14 a15 a16 : Nat → Int32} {j : Nat} {k : Int32} (hj : j < 4) (h3 : a3 0 = 0) (h4 : a4 0 = nI j) (h6 : a6 0 = k) (H : ∀ b9 b10 b11 b12 b13 b15 b16, (¬ b13 0 = 0 → ¬ k < a1 j ∧ ¬ a2 j < k) → post (1, fe, fp, fc, 1, 0, a1, a2, a3, a4, a5, a6, a7, a8, b9, b10, b11, b12, b13, a14, b15, b16)) : wpX_analyse post (1, fe, fp, fc, 0, fm, a1, a2, a3, a4, a5, a6, a7, a8, a9, a10, a11, a12, a13, a14, a15, a16) := by
  unfold wpX_analyse
  refine br_t rfl ?_
  exact pk_loop (σ := (Nat → Int32) × (Nat → Int32)) (fun n i s => wX_analyse_10 post 1 fe fp fc 0 fm n (nI i) a1 a2 a3 a4 a5 a6 a7 a8 s.1 a10 a11 s.2 a13 a14 a15 a16) (fun i s => (∀ j, j < i → s.1 j = 0) ∧ (∀ j, j < i → s.2 j = 0)) 15 0 (a9, a12) (by omega) ⟨fun j hj => absurd hj (by omega), fun j hj => absurd hj (by omega)⟩
    (fun n s h => pk_le 15 15 (fun _ => rg_an38b hj h3 h4 h6 (h.1 0 (by omega)) (h.2 0 (by omega)) H) (fun z => absurd z (by omega)))
    (fun n i s hi h hw => pk_le 15 i (fun z => absurd z (by omega)) (fun _ => ⟨pk_in i 15 hi, nm_e ⟨pk_in i 15 hi, nm_e (nm_r (nI_1 i) (hw (_, _) ⟨rg_fill (f := fun _ => 0) (nI_clamp (by omega)) h.1 rfl, rg_fill (f := fun _ => 0) (nI_clamp (by omega)) h.2 rfl⟩))⟩⟩))
theorem rg_run6 {post : Int32 → St2 → Prop} {fs fe fp fc fk fm : Int32} {a1 a2 a3 a4 a5 a6 a7 a8 a9 a10 a11 a12 a13 a14 a15 a16 : Nat → Int32} (H : ∀ b8, (∀ j, j < 4 → b8 j = rg_near (a1 j) (a2 j)) → ∃ n, wX_run_37 post n 0 0 fs fe fp 0 fk fm a1 a2 a3 a4 a5 a6 a7 b8 a9 a10 a11 a12 a13 a14 a15 a16) : ∃ n, wX_run_6 post fs fe fp fc fk fm n 0 a1 a2 a3 a4 a5 a6 a7 a8 a9 a10 a11 a12 a13 a14 a15 a16 :=
  pk_loop (σ := Nat → Int32) (fun n i s => wX_run_6 post fs fe fp fc fk fm n (nI i) a1 a2 a3 a4 a5 a6 a7 s a9 a10 a11 a12 a13 a14 a15 a16) (fun i s => ∀ j, j < i → s j = rg_near (a1 j) (a2 j)) 4 0 a8 (by omega) (fun j hj => absurd hj (by omega))
    (fun n s h => pk_le 4 4 (fun _ => H s h) (fun z => absurd z (by omega)))
    (fun n i s hi h hw => pk_le 4 i (fun z => absurd z (by omega)) (fun _ => rg_ntz hi ⟨pk_in i 4 hi, nm_e (nm_r (nI_1 i) (hw _ (rg_fill (f := fun j => rg_near (a1 j) (a2 j)) (nI_clamp (by omega)) h rfl)))⟩))
theorem rg_give {post : Int32 → St2 → Prop} {fs fe fp fc fk fm : Int32} {a1 a2 a3 a4 a5 a6 a7 a8 a9 a10 a11 a12 a13 a14 a15 a16 : Nat → Int32} {j : Nat} {k : Int32} (hj : j < 4) (hf : ¬ a13 0 = 0 → ¬ k < a1 j ∧ ¬ a2 j < k) (Hy : ¬ k < a1 j → ¬ a2 j < k → post 1 (fs, fe, fp, fc, fk, fm, a1, a2, a3, a4, a5, a6, a7, upd a8 j k, a9, a10, a11, a12, a13, a14, a15, a16)) (Hn : (k < a1 j ∨ a2 j < k) → post 0 (fs, 2, 0, fc, fk, fm, a1, a2, a3, a4, a5, a6, a7, a8, a9, a10, a11, a12, a13, a14, a15, a16)) : wpX_give post (fs, fe, fp, fc, fk, fm, a1, a2, a3, a4, a5, a6, a7, a8, a9, a10, a11, a12, a13, a14, a15, a16) 0 (nI j) k := by
  unfold wpX_give
  rw [nI_clamp (show j < 2 ^ 31 by omega), pk_cl (x := 0) 0]
  exact ⟨pk_in 0 14 (by omega), br_c (fun _ => ⟨pk_in j 4 hj, br_c (fun c => Hn (Or.inl c)) (fun c => ⟨pk_in j 4 hj, br_c (fun d => ⟨pk_in j 4 hj, nm_e (Hy c (Int32.not_lt.mpr d))⟩) (fun d => Hn (Or.inr (Int32.not_le.mp d)))⟩)⟩) (fun z => ⟨pk_in j 4 hj, nm_e (Hy (hf z).1 (hf z).2)⟩)⟩
theorem rg_work {post : Int32 → St2 → Prop} {fs fe fp fc fk fm : Int32} {a1 a2 a3 a4 a5 a6 a7 a8 a9 a10 a11 a12 a13 a14 a15 a16 : Nat → Int32} {j : Nat} {k : Int32} (hj : j < 4) (h3 : a3 0 = 0) (h4 : a4 0 = nI j) (h6 : a6 0 = k) (hf : ¬ a13 0 = 0 → ¬ k < a1 j ∧ ¬ a2 j < k) (Hy : ¬ k < a1 j → ¬ a2 j < k → post (0 + 1) (fs, fe, fp, fc, fk, fm, a1, a2, a3, a4, a5, a6, a7, upd a8 j k, a9, a10, a11, a12, a13, a14, a15, a16)) (Hn : (k < a1 j ∨ a2 j < k) → post (-1) (fs, 2, 0, fc, fk, fm, a1, a2, a3, a4, a5, a6, a7, a8, a9, a10, a11, a12, a13, a14, a15, a16)) : wpX_work post (fs, fe, fp, fc, fk, fm, a1, a2, a3, a4, a5, a6, a7, a8, a9, a10, a11, a12, a13, a14, a15, a16) 0 := by
  unfold wpX_work
  refine And.intro (pk_in 0 14 (by omega)) (nm_r (e' := 0) (by rw [pk_cl 0, h3]) ⟨pk_in 0 14 (by omega), nm_r (e' := nI j) (by rw [pk_cl 0, h4]) ⟨pk_in 0 14 (by omega), nm_e ⟨pk_in 0 14 (by omega), nm_r (e' := k) (by rw [pk_cl 0, h6]) ?_⟩⟩⟩)
  exact br_f (by decide) (br_t (by decide) (br_t rfl (rg_give hj hf (fun c d => br_f (by decide) (Hy c d)) (fun c => br_t rfl (Hn c)))))
theorem rg_run0 {post : Int32 → St2 → Prop} {fe fp fc fm : Int32} {a1 a2 a3 a4 a5 a6 a7 a8 a9 a10 a11 a12 a13 a14 a15 a16 : Nat → Int32} (H : ∀ b8 b9 b10 b11 b12 b13 b14 b15 b16, (∀ j, j < 4 → b8 j = rg_near (a1 j) (a2 j)) → post 1 (0, 1, -1, 0, 1, 0, a1, a2, a3, a4, a5, a6, a7, b8, b9, b10, b11, b12, b13, b14, b15, b16)) : wpX_run post (0, fe, fp, fc, 0, fm, a1, a2, a3, a4, a5, a6, a7, a8, a9, a10, a11, a12, a13, a14, a15, a16) := by
  unfold wpX_run
  refine rg_an_0 (fun b9 b12 b15 b16 => ?_)
  exact rg_run6 (fun b8 h8 => ⟨0 + 1, br_f (by decide) (br_f (by decide) (br_t (by decide) (br_f (by decide) (H b8 b9 a10 a11 b12 a13 a14 b15 b16 h8))))⟩)
theorem rg_run1 {post : Int32 → St2 → Prop} {fe fp fc fm : Int32} {a1 a2 a3 a4 a5 a6 a7 a8 a9 a10 a11 a12 a13 a14 a15 a16 : Nat → Int32} {j : Nat} {k : Int32} (hj : j < 4) (h3 : a3 0 = 0) (h4 : a4 0 = nI j) (h6 : a6 0 = k) (Hy : ¬ k < a1 j → ¬ a2 j < k → ∀ b8 b9 b10 b11 b12 b13 b14 b15 b16, b8 j = k → post 1 (1, 1, -1, 1, 1, 0, a1, a2, a3, a4, a5, a6, a7, b8, b9, b10, b11, b12, b13, b14, b15, b16)) (Hn : (k < a1 j ∨ a2 j < k) → ∀ b8 b9 b10 b11 b12 b13 b14 b15 b16, b8 j = rg_near (a1 j) (a2 j) → post 2 (1, 2, 0, 1, 1, 0, a1, a2, a3, a4, a5, a6, a7, b8, b9, b10, b11, b12, b13, b14, b15, b16)) : wpX_run post (1, fe, fp, fc, 0, fm, a1, a2, a3, a4, a5, a6, a7, a8, a9, a10, a11, a12, a13, a14, a15, a16) := by
  unfold wpX_run
  refine rg_an_1 hj h3 h4 h6 (fun b9 b10 b11 b12 b13 b15 b16 hc => ?_)
  refine rg_run6 (fun b8 h8 => ⟨0 + 1 + 1, br_f (by decide) (br_f (by decide) (br_f (by decide) (nm_r (e' := 1) rfl ?_)))⟩)
  refine rg_work hj h3 h4 h6 hc (fun c d => ?_) (fun c => ?_)
  · exact nm_e (br_f (by decide) (br_f (by decide) (br_t (by decide) (br_f (by decide) (Hy c d (upd b8 j k) b9 b10 b11 b12 b13 a14 b15 b16 pk_us)))))
  · exact nm_e (br_f (by decide) (br_t (by decide) (br_t (by decide) (br_t (by decide) (Hn c b8 b9 b10 b11 b12 b13 a14 b15 b16 (h8 j hj))))))
end
section
section
variable {post : Int32 → St0 → Prop} {mc ms kc ks : Nat} {x1 x2 x3 x4 x5 x7 x8 x9 x10 x11 x12 x13 x14 x15 x16 x17 x18 x19 z0 z1 : Int32}
theorem rg_290 (h : z1 = z0) (ho : rg_O x4 x5 x12) (hp : post 1 ()) : wL_lawOf_290 post mc ms x4 x5 x12 z0 z1 kc ks := by
  have N : (x4 < 0 ∨ 7 < x4 ∨ x5 < -100 ∨ 100 < x5) → wL_lawOf_325 post mc ms x12 kc ks := fun z => br_t (ho.1 z) hp
  unfold wL_lawOf_290
  refine br_t h (br_c (fun c => N (Or.inl c)) (fun c1 => br_c (fun c => N (Or.inr (Or.inl c))) (fun c2 => br_c (fun c => N (Or.inr (Or.inr (Or.inl c)))) (fun c3 => br_c (fun c => N (Or.inr (Or.inr (Or.inr c)))) (fun c4 => br_t (ho.2 ?_) hp)))))
  exact fun z => z.elim c1 (fun z => z.elim c2 (fun z => z.elim c3 c4))
theorem rg_275 (h : z1 = z0) (h11 : (x19 = 0 ∧ x11 = -1) ∨ (¬ x19 = 0 ∧ x11 = 0)) (ho : rg_O x4 x5 x12) (hp : post 1 ()) : wL_lawOf_275 post mc ms x4 x5 x11 x12 x19 z0 z1 kc ks := by
  unfold wL_lawOf_275
  rcases h11 with ⟨a, b⟩ | ⟨a, b⟩
  · exact br_t h (br_t a (rg_290 b ho hp))
  · exact br_t h (br_f a (rg_290 b ho hp))
theorem rg_245 (h : z1 = z0) (hv : (x13 = 0 ∧ x10 = 0) ∨ (¬ x13 = 0 ∧ x18 = 0 ∧ x10 = x17) ∨ (¬ x13 = 0 ∧ ¬ x18 = 0 ∧ x19 = 0 ∧ x10 = x3) ∨ (¬ x13 = 0 ∧ ¬ x18 = 0 ∧ ¬ x19 = 0 ∧ x10 = x17)) (h11 : (x19 = 0 ∧ x11 = -1) ∨ (¬ x19 = 0 ∧ x11 = 0)) (ho : rg_O x4 x5 x12) (hp : post 1 ()) : wL_lawOf_245 post mc ms x3 x4 x5 x10 x11 x12 x13 x17 x18 x19 z0 z1 kc ks := by
  unfold wL_lawOf_245 wL_lawOf_273
  rcases hv with ⟨a, b⟩ | ⟨a, b, c⟩ | ⟨a, b, c, d⟩ | ⟨a, b, c, d⟩
  · exact br_t h (br_t a (rg_275 b h11 ho hp))
  · exact br_t h (br_f a (br_t b (rg_275 c h11 ho hp)))
  · exact br_t h (br_f a (br_f b (br_t c (rg_275 d h11 ho hp))))
  · exact br_t h (br_f a (br_f b (br_f c (rg_275 d h11 ho hp))))
theorem rg_230 (h : z1 = z0) (h9 : (x19 = 0 ∧ x9 = 1) ∨ (¬ x19 = 0 ∧ x9 = 2)) (hv : (x13 = 0 ∧ x10 = 0) ∨ (¬ x13 = 0 ∧ x18 = 0 ∧ x10 = x17) ∨ (¬ x13 = 0 ∧ ¬ x18 = 0 ∧ x19 = 0 ∧ x10 = x3) ∨ (¬ x13 = 0 ∧ ¬ x18 = 0 ∧ ¬ x19 = 0 ∧ x10 = x17)) (h11 : (x19 = 0 ∧ x11 = -1) ∨ (¬ x19 = 0 ∧ x11 = 0)) (ho : rg_O x4 x5 x12) (hp : post 1 ()) : wL_lawOf_230 post mc ms x3 x4 x5 x9 x10 x11 x12 x13 x17 x18 x19 z0 z1 kc ks := by
  unfold wL_lawOf_230
  rcases h9 with ⟨a, b⟩ | ⟨a, b⟩
  · exact br_t h (br_t a (rg_245 b hv h11 ho hp))
  · exact br_t h (br_f a (rg_245 b hv h11 ho hp))
theorem rg_215 (h : z1 = z0) (h8 : (x18 = 0 ∧ x8 = -1) ∨ (¬ x18 = 0 ∧ x8 = 0)) (h9 : (x19 = 0 ∧ x9 = 1) ∨ (¬ x19 = 0 ∧ x9 = 2)) (hv : (x13 = 0 ∧ x10 = 0) ∨ (¬ x13 = 0 ∧ x18 = 0 ∧ x10 = x17) ∨ (¬ x13 = 0 ∧ ¬ x18 = 0 ∧ x19 = 0 ∧ x10 = x3) ∨ (¬ x13 = 0 ∧ ¬ x18 = 0 ∧ ¬ x19 = 0 ∧ x10 = x17)) (h11 : (x19 = 0 ∧ x11 = -1) ∨ (¬ x19 = 0 ∧ x11 = 0)) (ho : rg_O x4 x5 x12) (hp : post 1 ()) : wL_lawOf_215 post mc ms x3 x4 x5 x8 x9 x10 x11 x12 x13 x17 x18 x19 z0 z1 kc ks := by
  unfold wL_lawOf_215
  rcases h8 with ⟨a, b⟩ | ⟨a, b⟩
  · exact br_t h (br_t a (rg_230 b h9 hv h11 ho hp))
  · exact br_t h (br_f a (rg_230 b h9 hv h11 ho hp))
theorem rg_201 (h7 : (x14 = 0 ∧ x7 = -1) ∨ (¬ x14 = 0 ∧ x7 = 0)) (h8 : (x18 = 0 ∧ x8 = -1) ∨ (¬ x18 = 0 ∧ x8 = 0)) (h9 : (x19 = 0 ∧ x9 = 1) ∨ (¬ x19 = 0 ∧ x9 = 2)) (hv : (x13 = 0 ∧ x10 = 0) ∨ (¬ x13 = 0 ∧ x18 = 0 ∧ x10 = x17) ∨ (¬ x13 = 0 ∧ ¬ x18 = 0 ∧ x19 = 0 ∧ x10 = x3) ∨ (¬ x13 = 0 ∧ ¬ x18 = 0 ∧ ¬ x19 = 0 ∧ x10 = x17)) (h11 : (x19 = 0 ∧ x11 = -1) ∨ (¬ x19 = 0 ∧ x11 = 0)) (ho : rg_O x4 x5 x12) (hp : post 1 ()) : wL_lawOf_201 post mc ms x3 x4 x5 x7 x8 x9 x10 x11 x12 x13 x14 x17 x18 x19 kc ks := by
  unfold wL_lawOf_201
  rcases h7 with ⟨a, b⟩ | ⟨a, b⟩
  · exact br_t a (rg_215 b h8 h9 hv h11 ho hp)
  · exact br_f a (rg_215 b h8 h9 hv h11 ho hp)
theorem rg_177a (h : wL_lawOf_201 post mc ms x3 x4 x5 x7 x8 x9 x10 x11 x12 x13 x14 x17 0 0 kc ks) : wL_lawOf_177 post mc ms x3 x4 x5 x7 x8 x9 x10 x11 x12 x13 x14 x15 x16 x17 0 kc ks :=
  br_t rfl h
theorem rg_177b (c : x3 < x15 ∨ x16 < x3) (h : wL_lawOf_201 post mc ms x3 x4 x5 x7 x8 x9 x10 x11 x12 x13 x14 x17 1 1 kc ks) : wL_lawOf_177 post mc ms x3 x4 x5 x7 x8 x9 x10 x11 x12 x13 x14 x15 x16 x17 1 kc ks :=
  br_f (by decide) (br_c (fun _ => h) (fun z => br_f (Int32.not_le.mpr (c.resolve_left z)) h))
theorem rg_177c (c : ¬ x3 < x15) (d : ¬ x16 < x3) (h : wL_lawOf_201 post mc ms x3 x4 x5 x7 x8 x9 x10 x11 x12 x13 x14 x17 1 0 kc ks) : wL_lawOf_177 post mc ms x3 x4 x5 x7 x8 x9 x10 x11 x12 x13 x14 x15 x16 x17 1 kc ks :=
  br_f (by decide) (br_f c (br_t (Int32.not_lt.mp d) h))
theorem rg_153a (c : x13 = 0 ∨ x3 < -100 ∨ 100 < x3) (h : wL_lawOf_177 post mc ms x3 x4 x5 x7 x8 x9 x10 x11 x12 x13 x14 x15 x16 z0 0 kc ks) : wL_lawOf_153 post mc ms x3 x4 x5 x7 x8 x9 x10 x11 x12 x13 x14 x15 x16 z0 kc ks :=
  br_c (fun _ => h) (fun z => br_c (fun _ => h) (fun y => br_t ((c.resolve_left z).resolve_left y) h))
theorem rg_153b (c : ¬ x13 = 0) (d : ¬ (x3 < -100 ∨ 100 < x3)) (h : wL_lawOf_177 post mc ms x3 x4 x5 x7 x8 x9 x10 x11 x12 x13 x14 x15 x16 z0 1 kc ks) : wL_lawOf_153 post mc ms x3 x4 x5 x7 x8 x9 x10 x11 x12 x13 x14 x15 x16 z0 kc ks :=
  br_f c (br_f (fun z => d (Or.inl z)) (br_f (fun z => d (Or.inr z)) h))
theorem rg_130 (h : wL_lawOf_153 post mc ms x3 x4 x5 x7 x8 x9 x10 x11 x12 x13 x14 x15 z0 (rg_near x15 z0) kc ks) : wL_lawOf_130 post mc ms x3 x4 x5 x7 x8 x9 x10 x11 x12 x13 x14 x15 z0 kc ks := by
  unfold wL_lawOf_130
  refine br_c (fun h1 => br_c (fun h2 => ?_) (fun h2 => ?_)) (fun h1 => ?_)
  · have e : rg_near x15 z0 = 0 := by unfold rg_near; rw [if_pos h1, if_pos h2]
    rw [e] at h
    exact h
  · have e : rg_near x15 z0 = z0 := by unfold rg_near; rw [if_pos h1, if_neg h2]
    rw [e] at h
    exact h
  · have e : rg_near x15 z0 = x15 := by unfold rg_near; rw [if_neg h1]
    rw [e] at h
    exact h
theorem rg_104a (h : wL_lawOf_130 post mc ms x3 x4 x5 x7 x8 x9 x10 x11 x12 x13 0 (-100) 100 kc ks) : wL_lawOf_104 post mc ms x1 x2 x3 x4 x5 x7 x8 x9 x10 x11 x12 x13 0 kc ks :=
  br_t rfl (br_t rfl h)
theorem rg_104b (h : wL_lawOf_130 post mc ms x3 x4 x5 x7 x8 x9 x10 x11 x12 x13 1 x1 x2 kc ks) : wL_lawOf_104 post mc ms x1 x2 x3 x4 x5 x7 x8 x9 x10 x11 x12 x13 1 kc ks :=
  br_f (by decide) (br_f (by decide) h)
theorem rg_75 {s r low high : Int32} (hS : rg_S x1 x2 s r low high) (h : wL_lawOf_130 post mc ms x3 x4 x5 x7 x8 x9 x10 x11 x12 1 s low high kc ks) : wL_lawOf_75 post mc ms x1 x2 x3 x4 x5 x7 x8 x9 x10 x11 x12 1 kc ks := by
  unfold wL_lawOf_75
  rcases hS with ⟨e1, e2, c, e3, e4⟩ | ⟨e1, e2, c, e3, e4⟩
  · subst e1 e3 e4
    have N : wL_lawOf_103 post mc ms x1 x2 x3 x4 x5 x7 x8 x9 x10 x11 x12 1 kc ks := rg_104a h
    exact br_f (by decide) (br_c (fun _ => N) (fun y => br_c (fun _ => N) (fun z => br_t ((c.resolve_left y).resolve_left z) N)))
  · subst e1 e3 e4
    exact br_f (by decide) (br_f (fun z => c (Or.inl z)) (br_f (fun z => c (Or.inr (Or.inl z))) (br_f (fun z => c (Or.inr (Or.inr z))) (rg_104b h))))
theorem rg_74 (h7 : x7 = -1) (h8 : x8 = -1) (h9 : x9 = 1) (h10 : x10 = 0) (h11 : x11 = -1) (ho : rg_O x4 x5 x12) (hp : post 1 ()) : wL_lawOf_74 post mc ms x1 x2 x3 x4 x5 x7 x8 x9 x10 x11 x12 kc ks := by
  have M : wL_lawOf_104 post mc ms x1 x2 x3 x4 x5 x7 x8 x9 x10 x11 x12 0 0 kc ks := rg_104a (rg_130 (rg_153a (Or.inl rfl) (rg_177a (rg_201 (Or.inl ⟨rfl, h7⟩) (Or.inl ⟨rfl, h8⟩) (Or.inl ⟨rfl, h9⟩) (Or.inl ⟨rfl, h10⟩) (Or.inl ⟨rfl, h11⟩) ho hp))))
  exact br_t rfl M
theorem rg_S7 {lo hi s r low high : Int32} (hS : rg_S lo hi s r low high) : (s = 0 ∧ r = -1) ∨ (¬ s = 0 ∧ r = 0) := by
  rcases hS with ⟨e1, e2, _⟩ | ⟨e1, e2, _⟩
  · exact Or.inl ⟨e1, e2⟩
  · exact Or.inr ⟨by rw [e1]; decide, e2⟩
end
end
section
theorem rg_place {post : Int32 → Prop} {fs fe fp fc fk fm : Int32} {a1 a2 a3 a4 a5 a6 a7 a8 a9 a10 a11 a12 a13 a14 a15 a16 : Nat → Int32} (H : post fp) : wpX_place post (fs, fe, fp, fc, fk, fm, a1, a2, a3, a4, a5, a6, a7, a8, a9, a10, a11, a12, a13, a14, a15, a16) := H
theorem rg_lawOf {x lo hi k i v : Int32} : wpL_lawOf (fun r _ => r = 1) 160 2560 () x lo hi k i v := by
  unfold wpL_lawOf
  refine ⟨by decide, by decide, 16, 262, by decide, by decide, rg_init (fun b1 b2 hb1 hb2 => ?_)⟩
  by_cases hx : x < 0 ∨ 3 < x
  · refine rg_range_out hx (rg_const_out hx (rg_run0 (fun b8 b9 b10 b11 b12 b13 b14 b15 b16 h8 => rg_var_out hx ?_)))
    refine rg_place (rg_cell_set (fun _ => rfl) (fun r b7 ho => ?_))
    exact br_c (fun _ => rg_74 rfl rfl rfl rfl rfl ho rfl) (fun z => br_t (hx.resolve_left z) (rg_74 rfl rfl rfl rfl rfl ho rfl))
  · obtain ⟨j, hj4, rfl⟩ := nI_of2 (M := 3) (n := 3) (by decide) (fun z => hx (Or.inl z)) (Int32.not_lt.mp (fun z => hx (Or.inr z)))
    have hj : j < 4 := by omega
    refine rg_range_in hj (hb1 j hj) (hb2 j hj) (fun s r low high c1 c2 hS e1 e2 => ?_)
    have go : ∀ {x8 x9 x10 x11 x12 : Int32} {kc ks : Nat}, wL_lawOf_130 (fun r _ => r = 1) 160 2560 k i v r x8 x9 x10 x11 x12 1 s low high kc ks →
        ((nI j < 0 → wL_lawOf_74 (fun r _ => r = 1) 160 2560 lo hi k i v r x8 x9 x10 x11 x12 kc ks) ∧ (¬ nI j < 0 → ((3 < nI j → wL_lawOf_74 (fun r _ => r = 1) 160 2560 lo hi k i v r x8 x9 x10 x11 x12 kc ks) ∧ (¬ 3 < nI j → wL_lawOf_75 (fun r _ => r = 1) 160 2560 lo hi k i v r x8 x9 x10 x11 x12 1 kc ks)))) :=
      fun h => br_f (fun z => hx (Or.inl z)) (br_f (fun z => hx (Or.inr z)) (rg_75 hS h))
    by_cases hk : k < -100 ∨ 100 < k
    · refine rg_const_no hj hk (rg_run0 (fun b8 b9 b10 b11 b12 b13 b14 b15 b16 h8 => rg_var_in hj ?_))
      refine rg_place (rg_cell_set (fun _ => rfl) (fun r6 b7 ho => go ?_))
      refine rg_130 (rg_153a (Or.inr hk) (rg_177a (rg_201 (rg_S7 hS) (Or.inl ⟨rfl, rfl⟩) (Or.inl ⟨rfl, rfl⟩) (Or.inr (Or.inl ⟨by decide, rfl, ?_⟩)) (Or.inl ⟨rfl, rfl⟩) ho rfl)))
      rw [h8 j hj, e1, e2]
    · refine rg_const_in hj hk (fun r2 n b3 b4 b5 b6 er en h3 h4 h6 => ?_)
      subst er en
      refine rg_run1 hj h3 h4 h6 (fun c d b8 b9 b10 b11 b12 b13 b14 b15 b16 h8 => rg_var_in hj ?_) (fun c b8 b9 b10 b11 b12 b13 b14 b15 b16 h8 => rg_var_in hj ?_)
      · rw [e1] at c
        rw [e2] at d
        refine rg_place (rg_cell_set (fun _ => rfl) (fun r6 b7 ho => go ?_))
        exact rg_130 (rg_153b (by decide) hk (rg_177c c d (rg_201 (rg_S7 hS) (Or.inr ⟨by decide, rfl⟩) (Or.inl ⟨rfl, rfl⟩) (Or.inr (Or.inr (Or.inl ⟨by decide, by decide, rfl, h8⟩))) (Or.inl ⟨rfl, rfl⟩) ho rfl)))
      · rw [e1, e2] at c
        rw [e1, e2] at h8
        refine rg_place (rg_cell_set (fun _ => rfl) (fun r6 b7 ho => go ?_))
        exact rg_130 (rg_153b (by decide) hk (rg_177b c (rg_201 (rg_S7 hS) (Or.inr ⟨by decide, rfl⟩) (Or.inr ⟨by decide, rfl⟩) (Or.inr (Or.inr (Or.inr ⟨by decide, by decide, by decide, h8⟩))) (Or.inr ⟨by decide, rfl⟩) ho rfl)))
theorem i_vc (xs : Nat → Int32) (L : Nat) (hL : L ≤ 6) : wpL_law (fun r => r = 1) L xs := by
  unfold wpL_law
  exact rg_cellAt 0 (by omega) hL rfl (fun _ => rg_cellAt 1 (by omega) hL rfl (fun _ => rg_cellAt 2 (by omega) hL rfl (fun _ => rg_cellAt 3 (by omega) hL rfl (fun _ => rg_cellAt 4 (by omega) hL rfl (fun _ => rg_cellAt 5 (by omega) hL rfl (fun _ => ⟨160, 2560, by decide, by decide, rg_lawOf⟩))))))
end
