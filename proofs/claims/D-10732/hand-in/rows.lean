section
/-! ===== ShrinkRanker without a condition: the picture is the flat table, place j holds 4 ^ (j / 320) ===== -/
def sr_W (m : Nat) (a : Nat → Int32) : Prop := ∀ j, j < m → a j = nI (4 ^ (j / 320))
theorem sr_put {m k : Nat} {a : Nat → Int32} {x : Int32} (h : sr_W m a) (hk : k = m) (hx : x = nI (4 ^ (m / 320))) : sr_W (m + 1) (upd a k x) := by
  intro j hj
  rw [hk]
  by_cases e : j = m
  · rw [e, pk_us, hx]
  · rw [pk_un e]
    exact h j (by omega)
theorem sr_ix (k r : Nat) : nI k * 320 + nI r = nI (k * 320 + r) := by
  have h : nI k * 320 = nI (k * 320) := pk_mul k 320
  rw [h, nI_add]
theorem sr_shl {j : Nat} (h : j < 4) : nI j <<< ((6 : Int32) &&& 31) = nI (j * 64) := pk_shlN ((6 : Int32) &&& 31) 6 (by decide) (by omega)
theorem sr_cl {k r : Nat} (h : k * 320 + r < 2240) : (nI k * 320 + nI r).toNatClampNeg = k * 320 + r := by
  rw [sr_ix, nI_clamp (by omega)]
/-- what a row of the table adds up to -/
theorem sr_geo : ∀ i, i < 7 → nI ((4 ^ i - 1) / 3) + nI (4 ^ i) = nI ((4 ^ (i + 1) - 1) / 3) := by decide +kernel
section
variable {f1 f2 f3 : Int32} {a1 a2 a3 a4 a5 a6 : Nat → Int32}
theorem sr_next {post : Int32 → Prop} {p0 p1 : Int32} (H : post (p1 <<< ((6 : Int32) &&& 31))) : wpX_next post (0, f1, f2, f3, a1, a2, a3, a4, a5, a6) p0 p1 :=
  nm_e (nm_e ⟨1, br_t (by decide) H⟩)
theorem sr_accepting {post : Int32 → Prop} {p0 : Int32} (H : post 1) : wpX_accepting post (0, f1, f2, f3, a1, a2, a3, a4, a5, a6) p0 :=
  ⟨1, br_t (by decide) H⟩
theorem sr_sum {post : Int32 → Prop} {q p1 : Int32} {k : Nat} (hk : k ≤ 5) (hq : q = nI k) (ha : sr_W ((k + 1) * 320) a6) (H : post (nI (4 ^ (k + 1)))) : wpX_sumOver post (0, f1, f2, f3, a1, a2, a3, a4, a5, a6) q p1 4 := by
  subst hq
  refine pk_loop (fun n i s => wX_sumOver_6 post (nI k) p1 4 0 f1 f2 f3 a1 a2 a3 a4 a5 a6 n s (nI i)) (fun i s => s = nI (i * 4 ^ k)) 4 0 0 (by omega) (by rw [Nat.zero_mul]; rfl) ?_ ?_
  · intro n s h
    refine pk_le 4 4 (fun _ => ?_) (fun z => absurd z (by omega))
    rw [h, Nat.mul_comm, ← Nat.pow_succ]
    exact H
  · intro n i s hi h hw
    refine pk_le 4 i (fun z => absurd z (by omega)) (fun _ => sr_next ?_)
    rw [sr_shl hi, sr_cl (by omega), ha _ (by omega), show (k * 320 + i * 64) / 320 = k by omega]
    refine ⟨pk_in (k * 320 + i * 64) 2240 (by omega) (sr_ix k (i * 64)), nm_r ?_ (nm_r (nI_1 i) (hw (nI ((i + 1) * 4 ^ k)) rfl))⟩
    rw [h, nI_add, Nat.succ_mul]
theorem sr_59 {post : St2 → Prop} {J : Int32 → (Nat → Int32) → (Nat → Int32) → (Nat → Int32) → (Nat → Int32) → (Nat → Int32) → (Nat → Int32) → Prop} {k : Nat} (hk : k ≤ 5) (ha : sr_W ((k + 1) * 320) a6)
    (H : ∀ a, sr_W ((k + 2) * 320) a → J (nI (k + 2)) a1 a2 a3 a4 a5 a) : ∃ n, wX_prepare_59 post J (nI (k + 1)) 0 f1 f2 f3 n 0 a1 a2 a3 a4 a5 a6 := by
  refine pk_loop (fun n i s => wX_prepare_59 post J (nI (k + 1)) 0 f1 f2 f3 n (nI i) a1 a2 a3 a4 a5 s) (fun i s => sr_W ((k + 1) * 320 + i) s) 320 0 a6 (by omega) ha ?_ ?_
  · intro n s h
    refine pk_le 320 320 (fun _ => nm_r (nI_1 (k + 1)) (H s ?_)) (fun z => absurd z (by omega))
    rw [show (k + 2) * 320 = (k + 1) * 320 + 320 by omega]
    exact h
  · intro n i s hi h hw
    refine pk_le 320 i (fun z => absurd z (by omega)) (fun _ => sr_sum hk (nI_pred k) (fun j hj => h j (by omega)) ?_)
    refine ⟨pk_in ((k + 1) * 320 + i) 2240 (by omega) (sr_ix (k + 1) i), nm_e (nm_r (nI_1 i) (hw _ (sr_put h (sr_cl (by omega)) ?_)))⟩
    show nI (4 ^ (k + 1)) = nI (4 ^ (((k + 1) * 320 + i) / 320))
    rw [show ((k + 1) * 320 + i) / 320 = k + 1 by omega]
theorem sr_51 {post : St2 → Prop} (ha : sr_W 320 a6) (H : ∀ a, sr_W 2240 a → post (0, f1, f2, f3, a1, a2, a3, a4, a5, a)) : ∃ n, wX_prepare_51 post 0 f1 f2 f3 n 1 a1 a2 a3 a4 a5 a6 := by
  refine pk_loop (fun n i s => wX_prepare_51 post 0 f1 f2 f3 n (nI i) a1 a2 a3 a4 a5 s) (fun i s => 1 ≤ i ∧ sr_W (i * 320) s) 7 1 a6 (by omega) ⟨by omega, ha⟩ ?_ ?_
  · intro n s h
    exact pk_lt 6 7 (fun _ => H s h.2) (fun z => absurd z (by omega))
  · intro n i s hi h hw
    obtain ⟨k, rfl⟩ : ∃ k, i = k + 1 := ⟨i - 1, by have := h.1; omega⟩
    exact pk_lt 6 (k + 1) (fun z => absurd z (by omega)) (fun _ => sr_59 (by omega) h.2 (fun a h' => hw a ⟨by omega, h'⟩))
theorem sr_15 {post : St2 → Prop} (H : ∀ a, sr_W 2240 a → post (0, f1, f2, f3, a1, a2, a3, a4, a5, a)) : ∃ n, wX_prepare_15 post 0 f1 f2 f3 n 0 a1 a2 a3 a4 a5 a6 := by
  refine pk_loop (fun n i s => wX_prepare_15 post 0 f1 f2 f3 n (nI i) a1 a2 a3 a4 a5 s) (fun i s => sr_W i s) 320 0 a6 (by omega) (fun j hj => absurd hj (by omega)) ?_ ?_
  · intro n s h
    exact pk_le 320 320 (fun _ => sr_51 h H) (fun z => absurd z (by omega))
  · intro n i s hi h hw
    refine pk_le 320 i (fun z => absurd z (by omega)) (fun _ => sr_accepting (br_f (by decide) ⟨pk_in i 2240 (by omega), nm_e (nm_r (nI_1 i) (hw _ (sr_put h (nI_clamp (by omega)) ?_)))⟩))
    rw [show i / 320 = 0 by omega]
    rfl
/-- prepare, with no condition: the table is full -/
theorem sr_prepare {post : St2 → Prop} (hr : f3 = 0 ∨ sr_W 2240 a6) (H : ∀ r a, sr_W 2240 a → ¬ r = 0 → post (0, f1, f2, r, a1, a2, a3, a4, a5, a)) : wpX_prepare post (0, f1, f2, f3, a1, a2, a3, a4, a5, a6) :=
  br_c (fun _ => sr_15 (fun a ha => H 1 a ha (by decide))) (fun z => H f3 a6 (hr.elim (fun e => absurd e z) id) z)
theorem sr_total {post : Int32 → St2 → Prop} (hr : f3 = 0 ∨ sr_W 2240 a6) (H : ∀ r a, sr_W 2240 a → ¬ r = 0 → post 5461 (0, f1, f2, r, a1, a2, a3, a4, a5, a)) : wpX_total post (0, f1, f2, f3, a1, a2, a3, a4, a5, a6) := by
  unfold wpX_total
  refine sr_prepare hr (fun r a ha hn => ?_)
  refine pk_loop (fun n i s => wX_total_8 post 0 f1 f2 r a1 a2 a3 a4 a5 a n s (nI i)) (fun i s => s = nI ((4 ^ i - 1) / 3)) 7 0 0 (by omega) rfl ?_ ?_
  · intro n s h
    refine pk_lt 6 7 (fun _ => ?_) (fun z => absurd z (by omega))
    rw [h]
    exact H r a ha hn
  · intro n i s hi h hw
    refine pk_lt 6 i (fun z => absurd z (by omega)) (fun _ => ⟨pk_in (i * 320 + 256) 2240 (by omega) (sr_ix i 256), nm_r ?_ (nm_r (nI_1 i) (hw (nI ((4 ^ (i + 1) - 1) / 3)) rfl))⟩)
    have e : (nI i * 320 + 256).toNatClampNeg = i * 320 + 256 := sr_cl (r := 256) (by omega)
    rw [e, ha _ (by omega), h, show (i * 320 + 256) / 320 = i by omega]
    exact sr_geo i hi
theorem sr_failing {post : Int32 → St2 → Prop} (hr : f3 = 0 ∨ sr_W 2240 a6) (H : ∀ r a, sr_W 2240 a → ¬ r = 0 → post 5461 (0, f1, f2, r, a1, a2, a3, a4, a5, a)) : wpX_failing post (0, f1, f2, f3, a1, a2, a3, a4, a5, a6) := by
  unfold wpX_failing
  exact sr_total hr H
/-- the stage: empty, or one element -/
theorem sr_stage0 {post : Int32 → Prop} (H : post (nI 256)) : wpX_stageState post (0, f1, f2, f3, a1, a2, a3, a4, a5, a6) (nI 0) :=
  ⟨1, br_t (by decide) H⟩
theorem sr_stage1 {post : Int32 → Prop} {x : Nat} (hx : x < 4) (h4 : a4 0 = nI x) (H : post (nI (x * 64))) : wpX_stageState post (0, f1, f2, f3, a1, a2, a3, a4, a5, a6) (nI 1) := by
  refine ⟨2, br_f (by decide) ⟨pk_in 0 6 (by omega), sr_next (nm_e (br_t (by decide) ?_))⟩⟩
  have e : a4 (Int32.toNatClampNeg 0) = nI x := h4
  rw [e, sr_shl hx]
  exact H
theorem sr_17 {post : Int32 → St2 → Prop} {t s : Nat} (ht : t ≤ 6) (hs : s < 320) (ha : sr_W 2240 a6) (H : post (nI ((4 ^ (7 - t) - 1) / 3)) (0, nI t, f2, f3, a1, a2, a3, a4, a5, a6)) : ∃ n, wX_extending_17 post (nI s) 0 (nI t) f2 f3 a1 a2 a3 a4 a5 a6 n 0 0 := by
  have e6 : (6 : Int32) - nI t = nI (6 - t) := pk_sub (a := 6) ht
  refine pk_loop (fun n i x => wX_extending_17 post (nI s) 0 (nI t) f2 f3 a1 a2 a3 a4 a5 a6 n x (nI i)) (fun i x => x = nI ((4 ^ i - 1) / 3)) (7 - t) 0 0 (by omega) rfl ?_ ?_
  · intro n x h
    refine pk_lt (6 - t) (7 - t) (fun _ => ?_) (fun z => absurd z (by omega)) e6
    rw [h]
    exact H
  · intro n i x hi h hw
    refine pk_lt (6 - t) i (fun z => absurd z (by omega)) (fun _ => ⟨pk_in (i * 320 + s) 2240 (by omega) (sr_ix i s), nm_r ?_ (nm_r (nI_1 i) (hw (nI ((4 ^ (i + 1) - 1) / 3)) rfl))⟩) e6
    rw [sr_cl (by omega), ha _ (by omega), h, show (i * 320 + s) / 320 = i by omega]
    exact sr_geo i (by omega)
theorem sr_ext0 {post : Int32 → St2 → Prop} (hr : f3 = 0 ∨ sr_W 2240 a6) (H : ∀ r a, post 5461 (0, 0, f2, r, a1, a2, a3, a4, a5, a)) : wpX_extending post (0, 0, f2, f3, a1, a2, a3, a4, a5, a6) := by
  unfold wpX_extending
  exact sr_prepare hr (fun r a ha _ => sr_stage0 (sr_17 (t := 0) (by omega) (by omega) ha (H r a)))
theorem sr_ext1 {post : Int32 → St2 → Prop} {x : Nat} (hx : x < 4) (h4 : a4 0 = nI x) (hr : f3 = 0 ∨ sr_W 2240 a6) (H : ∀ r a, post 1365 (0, 1, f2, r, a1, a2, a3, a4, a5, a)) : wpX_extending post (0, 1, f2, f3, a1, a2, a3, a4, a5, a6) := by
  unfold wpX_extending
  exact sr_prepare hr (fun r a ha _ => sr_stage1 hx h4 (sr_17 (t := 1) (by omega) (by omega) ha (H r a)))
end
end
section
/-! ===== plain facts about ints, and goodNumbers ===== -/
theorem sr_m1 {a b : Int32} (h1 : ¬ a < 2) (h2 : ¬ 4 < a) : a - 1 < b ↔ a ≤ b := by
  rw [Int32.lt_iff_toInt_lt] at h1 h2
  have e2 : (2 : Int32).toInt = 2 := by decide
  have e4 : (4 : Int32).toInt = 4 := by decide
  rw [e2] at h1
  rw [e4] at h2
  have h3 : a.toInt = 2 ∨ a.toInt = 3 ∨ a.toInt = 4 := by omega
  rw [Int32.lt_iff_toInt_lt, Int32.le_iff_toInt_le]
  rcases h3 with h | h | h
  · have e : a = 2 := Int32.toInt_inj.mp (by rw [h]; decide)
    subst e
    have e' : ((2 : Int32) - 1).toInt = 1 := by decide
    omega
  · have e : a = 3 := Int32.toInt_inj.mp (by rw [h]; decide)
    subst e
    have e' : ((3 : Int32) - 1).toInt = 2 := by decide
    omega
  · have e : a = 4 := Int32.toInt_inj.mp (by rw [h]; decide)
    subst e
    have e' : ((4 : Int32) - 1).toInt = 3 := by decide
    omega
theorem sr_01 {b : Int32} (h0 : ¬ b = 0) (h1 : ¬ b = 1) : b < 0 ∨ 1 < b := by
  rw [← Int32.toInt_inj] at h0 h1
  rw [Int32.lt_iff_toInt_lt, Int32.lt_iff_toInt_lt]
  have e0 : (0 : Int32).toInt = 0 := by decide
  have e1 : (1 : Int32).toInt = 1 := by decide
  omega
theorem sr_is0 {b : Int32} (h0 : ¬ b < 0) (h1 : b < 1) : b = 0 := by
  rw [← Int32.toInt_inj]
  rw [Int32.lt_iff_toInt_lt] at h0 h1
  have e0 : (0 : Int32).toInt = 0 := by decide
  have e1 : (1 : Int32).toInt = 1 := by decide
  omega
theorem sr_567 {k : Int32} (h : ¬ k < 0) (h9 : k ≤ 9) (n0 : ¬ k = 0) (n1 : ¬ k = 1) (n2 : ¬ k = 2) (n3 : ¬ k = 3) (n4 : ¬ k = 4) (n8 : ¬ k = 8) (n9 : ¬ k = 9) : k = 5 ∨ k = 6 ∨ k = 7 := by
  obtain ⟨j, hj, rfl⟩ := nI_of2 (M := 9) (n := 9) (by decide) h h9
  have e0 : j ≠ 0 := fun e => n0 (by rw [e]; rfl)
  have e1 : j ≠ 1 := fun e => n1 (by rw [e]; rfl)
  have e2 : j ≠ 2 := fun e => n2 (by rw [e]; rfl)
  have e3 : j ≠ 3 := fun e => n3 (by rw [e]; rfl)
  have e4 : j ≠ 4 := fun e => n4 (by rw [e]; rfl)
  have e8 : j ≠ 8 := fun e => n8 (by rw [e]; rfl)
  have e9 : j ≠ 9 := fun e => n9 (by rw [e]; rfl)
  have h3 : j = 5 ∨ j = 6 ∨ j = 7 := by omega
  rcases h3 with e | e | e
  · exact Or.inl (by rw [e]; rfl)
  · exact Or.inr (Or.inl (by rw [e]; rfl))
  · exact Or.inr (Or.inr (by rw [e]; rfl))
theorem sr_4 {x : Int32} (h0 : ¬ x < 0) (h3 : ¬ 3 < x) : ∃ j : Nat, j < 4 ∧ x = nI j := by
  obtain ⟨j, hj, e⟩ := nI_of2 (M := 3) (n := 3) (by decide) h0 (by rw [Int32.lt_iff_toInt_lt] at h3; rw [Int32.le_iff_toInt_le]; omega)
  exact ⟨j, by omega, e⟩
theorem sr_le3 {x : Int32} (h3 : ¬ 3 < x) : x ≤ 3 := by
  rw [Int32.lt_iff_toInt_lt] at h3
  rw [Int32.le_iff_toInt_le]
  omega
theorem sr_nle3 {x : Int32} (h3 : 3 < x) : ¬ x ≤ 3 := by
  rw [Int32.lt_iff_toInt_lt] at h3
  rw [Int32.le_iff_toInt_le]
  omega
section
variable {ψ : Int32 → Prop} {a lo hi b lo2 hi2 : Int32}
theorem sr_in_t (h1 : ¬ a < lo) (h2 : ¬ hi < a) (h : ψ 1) : wpX_in ψ () a lo hi := br_f h1 (br_f h2 h)
theorem sr_in_f (h1 : a < lo ∨ hi < a) (h : ψ 0) : wpX_in ψ () a lo hi :=
  br_c (fun _ => h) (fun n => br_t (h1.elim (fun z => absurd z n) id) h)
theorem sr_in2_t (h1 : ¬ a < lo) (h2 : ¬ hi < a) (h3 : ¬ b < lo2) (h4 : ¬ hi2 < b) (h : ψ 1) :
    wpX_in (fun r => (r = 0 → ψ 0) ∧ (¬ r = 0 → wpX_in (fun r' => (r' = 0 → ψ 0) ∧ (¬ r' = 0 → ψ 1)) () b lo2 hi2)) () a lo hi :=
  sr_in_t h1 h2 (br_f (by decide) (sr_in_t h3 h4 (br_f (by decide) h)))
theorem sr_in2_f (hd : (a < lo ∨ hi < a) ∨ (b < lo2 ∨ hi2 < b)) (h : ψ 0) :
    wpX_in (fun r => (r = 0 → ψ 0) ∧ (¬ r = 0 → wpX_in (fun r' => (r' = 0 → ψ 0) ∧ (¬ r' = 0 → ψ 1)) () b lo2 hi2)) () a lo hi := by
  by_cases g : a < lo ∨ hi < a
  · exact sr_in_f g (br_t rfl h)
  · exact sr_in_t (fun z => g (Or.inl z)) (fun z => g (Or.inr z)) (br_f (by decide) (sr_in_f (hd.elim (fun z => absurd z g) id) (br_t rfl h)))
end
/-- goodNumbers answers v -/
def sr_G (k a b v : Int32) : Prop := ∀ ψ : Int32 → Prop, ψ v → wpX_goodNumbers ψ () k a b
theorem sr_G0t {a b : Int32} (h1 : ¬ a < 2) (h2 : ¬ 4 < a) (h3 : ¬ b < 0) (h4 : ¬ a ≤ b) : sr_G 0 a b 1 := fun ψ h =>
  br_f (by decide) (br_f (by decide) (br_t rfl (sr_in2_t h1 h2 h3 (fun z => h4 ((sr_m1 h1 h2).mp z)) h)))
theorem sr_G0f {a b : Int32} (hd : a < 2 ∨ 4 < a ∨ b < 0 ∨ a ≤ b) : sr_G 0 a b 0 := by
  intro ψ h
  refine br_f (by decide) (br_f (by decide) (br_t rfl (sr_in2_f ?_ h)))
  by_cases h1 : a < 2
  · exact Or.inl (Or.inl h1)
  by_cases h2 : 4 < a
  · exact Or.inl (Or.inr h2)
  rcases hd with z | z | z | z
  · exact absurd z h1
  · exact absurd z h2
  · exact Or.inr (Or.inl z)
  · exact Or.inr (Or.inr ((sr_m1 h1 h2).mpr z))
theorem sr_G1t {a b : Int32} (h1 : ¬ a < 0) (h2 : ¬ 3 < a) (h3 : ¬ b < 1) (h4 : ¬ 3 < b) : sr_G 1 a b 1 := fun ψ h =>
  br_f (by decide) (br_f (by decide) (br_f (by decide) (br_t rfl (sr_in2_t h1 h2 h3 h4 h))))
theorem sr_G1f {a b : Int32} (hd : (a < 0 ∨ 3 < a) ∨ (b < 1 ∨ 3 < b)) : sr_G 1 a b 0 := fun ψ h =>
  br_f (by decide) (br_f (by decide) (br_f (by decide) (br_t rfl (sr_in2_f hd h))))
theorem sr_G2t {a b : Int32} (h1 : ¬ a < 0) (h2 : ¬ 3 < a) (h3 : ¬ b < 0) (h4 : ¬ 2 < b) : sr_G 2 a b 1 := fun ψ h =>
  br_f (by decide) (br_f (by decide) (br_f (by decide) (br_f (by decide) (br_t rfl (sr_in2_t h1 h2 h3 h4 h)))))
theorem sr_G2f {a b : Int32} (hd : (a < 0 ∨ 3 < a) ∨ (b < 0 ∨ 2 < b)) : sr_G 2 a b 0 := fun ψ h =>
  br_f (by decide) (br_f (by decide) (br_f (by decide) (br_f (by decide) (br_t rfl (sr_in2_f hd h)))))
theorem sr_G34t {k a b : Int32} (hk : k = 3 ∨ k = 4) (h1 : ¬ a < 0) (h2 : ¬ 3 < a) (h3 : ¬ b < 0) (h4 : ¬ 3 < b) : sr_G k a b 1 := by
  rcases hk with rfl | rfl
  · exact fun ψ h => br_f (by decide) (br_f (by decide) (br_f (by decide) (br_f (by decide) (br_f (by decide) (br_t rfl (sr_in2_t h1 h2 h3 h4 h))))))
  · exact fun ψ h => br_f (by decide) (br_f (by decide) (br_f (by decide) (br_f (by decide) (br_f (by decide) (br_f (by decide) (br_t rfl (sr_in2_t h1 h2 h3 h4 h)))))))
theorem sr_G34f {k a b : Int32} (hk : k = 3 ∨ k = 4) (hd : (a < 0 ∨ 3 < a) ∨ (b < 0 ∨ 3 < b)) : sr_G k a b 0 := by
  rcases hk with rfl | rfl
  · exact fun ψ h => br_f (by decide) (br_f (by decide) (br_f (by decide) (br_f (by decide) (br_f (by decide) (br_t rfl (sr_in2_f hd h))))))
  · exact fun ψ h => br_f (by decide) (br_f (by decide) (br_f (by decide) (br_f (by decide) (br_f (by decide) (br_f (by decide) (br_t rfl (sr_in2_f hd h)))))))
theorem sr_150t {ψ : Int32 → Prop} {a : Int32} (h1 : ¬ a < 0) (h2 : ¬ 3 < a) (h : ψ 1) : wX_goodNumbers_150 ψ a := sr_in_t h1 h2 ⟨rfl, h⟩
theorem sr_150f {ψ : Int32 → Prop} {a : Int32} (hd : a < 0 ∨ 3 < a) (h : ψ 0) : wX_goodNumbers_150 ψ a := sr_in_f hd ⟨rfl, h⟩
theorem sr_G567 {k a b v : Int32} (hk : k = 5 ∨ k = 6 ∨ k = 7) (hv : ∀ ψ : Int32 → Prop, ψ v → wX_goodNumbers_150 ψ a) : sr_G k a b v := by
  intro ψ h
  have H := hv ψ h
  rcases hk with rfl | rfl | rfl
  · exact br_f (by decide) (br_f (by decide) (br_f (by decide) (br_f (by decide) (br_f (by decide) (br_f (by decide) (br_f (by decide) (br_t rfl H)))))))
  · exact br_f (by decide) (br_f (by decide) (br_f (by decide) (br_f (by decide) (br_f (by decide) (br_f (by decide) (br_f (by decide) (br_f (by decide) (br_t rfl H))))))))
  · exact br_f (by decide) (br_f (by decide) (br_f (by decide) (br_f (by decide) (br_f (by decide) (br_f (by decide) (br_f (by decide) (br_f (by decide) (br_f (by decide) (br_t rfl H)))))))))
theorem sr_G8 {a b : Int32} : sr_G 8 a b 1 := fun ψ h =>
  br_f (by decide) (br_f (by decide) (br_f (by decide) (br_f (by decide) (br_f (by decide) (br_f (by decide) (br_f (by decide) (br_f (by decide) (br_f (by decide) (br_f (by decide) (br_t rfl h))))))))))
theorem sr_G9t {a b : Int32} (h1 : ¬ a < 0) (h2 : ¬ 3 < a) (h3 : ¬ b < 0) (h4 : ¬ 1 < b) : sr_G 9 a b 1 := fun ψ h =>
  br_f (by decide) (br_t (by decide) (sr_in2_t h1 h2 h3 h4 h))
theorem sr_G9f {a b : Int32} (hd : (a < 0 ∨ 3 < a) ∨ (b < 0 ∨ 1 < b)) : sr_G 9 a b 0 := fun ψ h =>
  br_f (by decide) (br_t (by decide) (sr_in2_f hd h))
end
section
/-! ===== the law, from its end to its beginning ===== -/
/-- behind condition(): what drop() will answer, and whether the table stands -/
def sr_S (c x8 r : Int32) (a6 : Nat → Int32) : Prop := (c = 0 ∧ x8 ≤ 0 ∧ sr_W 2240 a6) ∨ (c = 1 ∧ ¬ x8 ≤ 0 ∧ r = 0)
/-- behind push(): what is staged -/
def sr_T (x9 st : Int32) (a4 : Nat → Int32) : Prop := (x9 = 0 ∧ st = 0) ∨ (x9 = 1 ∧ st = 1 ∧ ∃ x : Nat, x < 4 ∧ a4 0 = nI x)
/-- what condition() is due to answer -/
def sr_D (k a b z : Int32) : Prop := ((k < 0 ∨ ¬ k ≤ 9) ∧ z = -1) ∨ (¬ k < 0 ∧ k ≤ 9 ∧ sr_G k a b 0 ∧ z = -2) ∨ (¬ k < 0 ∧ k ≤ 9 ∧ sr_G k a b 1 ∧ z = 1)
section
variable {post : Int32 → St0 → Prop} {mc ms kc ks : Nat} {f2 r : Int32} {a1 a2 a3 a4 a5 a6 : Nat → Int32}
theorem sr_327 {x9 st z : Int32} (hp : post 1 ()) (hT : sr_T x9 st a4) (hr : r = 0 ∨ sr_W 2240 a6) : wL_lawOf_327 post mc ms x9 z z kc ks 0 st f2 r a1 a2 a3 a4 a5 a6 := by
  refine br_t rfl ?_
  rcases hT with ⟨rfl, rfl⟩ | ⟨rfl, rfl, x, hx, h4⟩
  · exact sr_ext0 hr (fun r a => br_t rfl (br_t rfl hp))
  · exact sr_ext1 hx h4 hr (fun r a => br_f (by decide) (br_t rfl hp))
theorem sr_306 {c x8 x9 st z : Int32} (hp : post 1 ()) (hT : sr_T x9 st a4) (hS : sr_S c x8 r a6) : wL_lawOf_306 post mc ms x8 x9 z z kc ks c st f2 r a1 a2 a3 a4 a5 a6 := by
  refine br_t rfl ?_
  rcases hS with ⟨rfl, h8, ha⟩ | ⟨rfl, h8, rfl⟩
  · exact br_t rfl (br_t h8 (sr_327 hp hT (Or.inr ha)))
  · exact br_f (by decide) (nm_r (e' := 0) (by decide) (br_f h8 (sr_327 hp hT (Or.inl rfl))))
theorem sr_280b {c x3 x4 x8 z : Int32} (hp : post 1 ()) (hS : sr_S c x8 r a6) : wL_lawOf_280 post mc ms x3 x4 x8 0 z z kc ks c 0 f2 r a1 a2 a3 a4 a5 a6 := by
  have hT : sr_T 0 0 a4 := Or.inl ⟨rfl, rfl⟩
  exact br_t rfl (br_c (fun _ => br_t rfl (sr_306 hp hT hS)) (fun h => br_c (fun g => absurd g h) (fun _ => br_t rfl (sr_306 hp hT hS))))
theorem sr_280g {c x3 x4 x8 z : Int32} (hp : post 1 ()) (hS : sr_S c x8 r a6) (hx : ∃ x : Nat, x < 4 ∧ x3 = nI x) (h4 : a4 0 = x3) : wL_lawOf_280 post mc ms x3 x4 x8 1 z z kc ks c 1 f2 r a1 a2 a3 a4 a5 a6 := by
  have hT : sr_T 1 1 a4 := Or.inr ⟨rfl, rfl, by rw [h4]; exact hx⟩
  have E : ¬ x4 = 0 → ((1 : Int32) = 0 → wL_lawOf_304 post mc ms x8 1 (-4) kc ks c 1 f2 r a1 a2 a3 a4 a5 a6) ∧ (¬ (1 : Int32) = 0 → ((x4 = 0 → wL_lawOf_306 post mc ms x8 1 x3 (-4) kc ks c 1 f2 r a1 a2 a3 a4 a5 a6) ∧ (¬ x4 = 0 → wL_lawOf_304 post mc ms x8 1 (-4) kc ks c 1 f2 r a1 a2 a3 a4 a5 a6))) :=
    fun n => br_f (by decide) (br_f n (sr_306 hp hT hS))
  refine br_t rfl (br_c (fun h => E (fun e => absurd h (by rw [e]; decide))) (fun h => br_c (fun g => ?_) (fun g => E (fun e => g (by rw [e]; decide)))))
  have e : x4 = 0 := sr_is0 h g
  subst e
  refine ⟨pk_in 0 6 (by omega), br_f (by decide) (br_t rfl ?_)⟩
  have e' : a4 (Int32.toNatClampNeg 0) = x3 := h4
  rw [e']
  exact sr_306 hp hT hS
theorem sr_261b {c x3 x4 x8 : Int32} (hp : post 1 ()) (hS : sr_S c x8 r a6) (h : x3 < 0 ∨ 3 < x3) : wL_lawOf_261 post mc ms x3 x4 x8 0 kc ks c 0 f2 r a1 a2 a3 a4 a5 a6 :=
  br_c (fun _ => br_t rfl (sr_280b hp hS)) (fun n => br_f (sr_nle3 (h.elim (fun z => absurd z n) id)) (br_t rfl (sr_280b hp hS)))
theorem sr_261g {c x3 x4 x8 : Int32} (hp : post 1 ()) (hS : sr_S c x8 r a6) (h0 : ¬ x3 < 0) (h3 : ¬ 3 < x3) : wL_lawOf_261 post mc ms x3 x4 x8 1 kc ks c 0 f2 r a1 a2 a3 a4 a5 a6 := by
  refine br_f h0 (br_t (sr_le3 h3) (br_t (by decide) ⟨pk_in 0 6 (by omega), nm_e (nm_r (e' := 1) (by decide) (br_f (by decide) (sr_280g hp hS (sr_4 h0 h3) ?_)))⟩))
  exact pk_us (k := 0)
end
section
variable {f1 f2 r : Int32} {a1 a2 a3 a4 a5 a6 : Nat → Int32}
theorem sr_cond {φ : Int32 → St2 → Prop} {k a b z : Int32} (hz : sr_D k a b z) (ha : sr_W 2240 a6) (H : ∀ c r a1 a2 a3, sr_S c z r a6 → φ z (c, f1, f2, r, a1, a2, a3, a4, a5, a6)) : wpX_condition φ (0, f1, f2, r, a1, a2, a3, a4, a5, a6) k a b := by
  rcases hz with ⟨hk, rfl⟩ | ⟨h0, h9, hg, rfl⟩ | ⟨h0, h9, hg, rfl⟩
  · have E := H 0 r a1 a2 a3 (Or.inl ⟨rfl, by decide, ha⟩)
    exact br_c (fun _ => E) (fun n => br_f (hk.elim (fun z => absurd z n) id) E)
  · exact br_f h0 (br_t h9 (hg _ (br_t rfl (H 0 r a1 a2 a3 (Or.inl ⟨rfl, by decide, ha⟩)))))
  · exact br_f h0 (br_t h9 (hg _ (br_f (by decide) (br_t (by decide) ⟨pk_in 0 3 (by omega), nm_e ⟨pk_in 0 3 (by omega), nm_e ⟨pk_in 0 3 (by omega), nm_e (nm_r (e' := 1) (by decide) (H 1 0 _ _ _ (Or.inr ⟨rfl, by decide, rfl⟩)))⟩⟩⟩))))
end
section
variable {post : Int32 → St0 → Prop} {mc ms kc ks : Nat} {x0 x1 x2 x3 x4 : Int32} {a1 a2 a3 a4 a5 a6 : Nat → Int32}
theorem sr_219 {z : Int32} (hp : post 1 ()) (hz : sr_D x0 x1 x2 z) : wL_lawOf_219 post mc ms x0 x1 x2 x3 x4 z kc ks 0 0 0 0 a1 a2 a3 a4 a5 a6 := by
  unfold wL_lawOf_219
  refine sr_failing (Or.inl rfl) (fun r a ha _ => br_t rfl (sr_cond hz ha (fun c r' b1 b2 b3 hS => br_t rfl ?_)))
  exact br_c (fun h => sr_261b hp hS (Or.inl h)) (fun h => br_c (fun g => sr_261b hp hS (Or.inr g)) (fun g => sr_261g hp hS h g))
theorem sr_194 {x7 : Int32} (hp : post 1 ()) (h7 : x7 = 0 ∨ x7 = 1) (hG : ¬ x0 < 0 → x0 ≤ 9 → sr_G x0 x1 x2 x7) : wL_lawOf_194 post mc ms x0 x1 x2 x3 x4 x7 kc ks 0 0 0 0 a1 a2 a3 a4 a5 a6 := by
  refine br_c (fun h => sr_219 hp (Or.inl ⟨Or.inl h, rfl⟩)) (fun h => br_c (fun g => ?_) (fun g => sr_219 hp (Or.inl ⟨Or.inr g, rfl⟩)))
  have G := hG h g
  rcases h7 with rfl | rfl
  · exact br_t rfl (sr_219 hp (Or.inr (Or.inl ⟨h, g, G, rfl⟩)))
  · exact br_f (by decide) (sr_219 hp (Or.inr (Or.inr ⟨h, g, G, rfl⟩)))
theorem sr_131 {z : Int32} (hp : post 1 ()) (hk : x0 = 3 ∨ x0 = 4) (z0 : z = 0 → x1 < 0 ∨ 3 < x1) (z1 : ¬ z = 0 → ¬ x1 < 0 ∧ ¬ 3 < x1) : wL_lawOf_131 post mc ms x0 x1 x2 x3 x4 z kc ks 0 0 0 0 a1 a2 a3 a4 a5 a6 := by
  have F : ((x1 < 0 ∨ 3 < x1) ∨ (x2 < 0 ∨ 3 < x2)) → wL_lawOf_149 post mc ms x0 x1 x2 x3 x4 kc ks 0 0 0 0 a1 a2 a3 a4 a5 a6 := fun d => sr_194 hp (Or.inl rfl) (fun _ _ => sr_G34f hk d)
  exact br_c (fun e => F (Or.inl (z0 e))) (fun n => br_c (fun h => F (Or.inr (Or.inl h))) (fun h => br_c (fun g => F (Or.inr (Or.inr g))) (fun g => sr_194 hp (Or.inr rfl) (fun _ _ => sr_G34t hk (z1 n).1 (z1 n).2 h g))))
theorem sr_23 {z : Int32} (hp : post 1 ()) (hz : z = 0 ∨ z = 1) (z0 : z = 0 → x1 < 0 ∨ 3 < x1) (z1 : ¬ z = 0 → ¬ x1 < 0 ∧ ¬ 3 < x1) : wL_lawOf_23 post mc ms x0 x1 x2 x3 x4 z kc ks 0 0 0 0 a1 a2 a3 a4 a5 a6 := by
  refine br_c (fun e => ?_) (fun n0 => br_c (fun e => ?_) (fun n1 => br_c (fun e => ?_) (fun n2 => br_c (fun e => ?_) (fun n3 => br_c (fun e => ?_) (fun n4 => br_c (fun e => ?_) (fun n8 => br_c (fun e => ?_) (fun n9 => ?_)))))))
  · subst e
    have F : (x1 < 2 ∨ 4 < x1 ∨ x2 < 0 ∨ x1 ≤ x2) → wL_lawOf_56 post mc ms 0 x1 x2 x3 x4 kc ks 0 0 0 0 a1 a2 a3 a4 a5 a6 := fun d => sr_194 hp (Or.inl rfl) (fun _ _ => sr_G0f d)
    exact br_c (fun h => F (Or.inl h)) (fun h1 => br_c (fun h => F (Or.inr (Or.inl h))) (fun h2 => br_c (fun h => F (Or.inr (Or.inr (Or.inl h)))) (fun h3 => br_c (fun h => F (Or.inr (Or.inr (Or.inr h)))) (fun h4 => sr_194 hp (Or.inr rfl) (fun _ _ => sr_G0t h1 h2 h3 h4)))))
  · subst e
    have F : ((x1 < 0 ∨ 3 < x1) ∨ (x2 < 1 ∨ 3 < x2)) → wL_lawOf_86 post mc ms 1 x1 x2 x3 x4 kc ks 0 0 0 0 a1 a2 a3 a4 a5 a6 := fun d => sr_194 hp (Or.inl rfl) (fun _ _ => sr_G1f d)
    exact br_c (fun e => F (Or.inl (z0 e))) (fun n => br_c (fun h => F (Or.inr (Or.inl h))) (fun h => br_c (fun g => F (Or.inr (Or.inr g))) (fun g => sr_194 hp (Or.inr rfl) (fun _ _ => sr_G1t (z1 n).1 (z1 n).2 h g))))
  · subst e
    have F : ((x1 < 0 ∨ 3 < x1) ∨ (x2 < 0 ∨ 2 < x2)) → wL_lawOf_115 post mc ms 2 x1 x2 x3 x4 kc ks 0 0 0 0 a1 a2 a3 a4 a5 a6 := fun d => sr_194 hp (Or.inl rfl) (fun _ _ => sr_G2f d)
    exact br_c (fun e => F (Or.inl (z0 e))) (fun n => br_c (fun h => F (Or.inr (Or.inl h))) (fun h => br_c (fun g => F (Or.inr (Or.inr g))) (fun g => sr_194 hp (Or.inr rfl) (fun _ _ => sr_G2t (z1 n).1 (z1 n).2 h g))))
  · exact sr_131 hp (Or.inl e) z0 z1
  · exact sr_131 hp (Or.inr e) z0 z1
  · subst e
    exact sr_194 hp (Or.inr rfl) (fun _ _ => sr_G8)
  · subst e
    have F : ((x1 < 0 ∨ 3 < x1) ∨ (x2 < 0 ∨ 1 < x2)) → wL_lawOf_191 post mc ms 9 x1 x2 x3 x4 kc ks 0 0 0 0 a1 a2 a3 a4 a5 a6 := fun d => sr_194 hp (Or.inl rfl) (fun _ _ => sr_G9f d)
    have T : ¬ z = 0 → ¬ x2 < 0 → ¬ 1 < x2 → wL_lawOf_187 post mc ms 9 x1 x2 x3 x4 kc ks 0 0 0 0 a1 a2 a3 a4 a5 a6 := fun n h g => sr_194 hp (Or.inr rfl) (fun _ _ => sr_G9t (z1 n).1 (z1 n).2 h g)
    exact br_c (fun e => F (Or.inl (z0 e))) (fun n => br_c (fun h => T n (by rw [h]; decide) (by rw [h]; decide)) (fun h => br_c (fun g => T n (by rw [g]; decide) (by rw [g]; decide)) (fun g => F (Or.inr (sr_01 h g)))))
  · refine sr_194 hp hz (fun h g => sr_G567 (sr_567 h g n0 n1 n2 n3 n4 n8 n9) ?_)
    rcases hz with rfl | rfl
    · exact fun ψ hψ => sr_150f (z0 rfl) hψ
    · exact fun ψ hψ => sr_150t (z1 (by decide)).1 (z1 (by decide)).2 hψ
theorem sr_lawOf (hp : post 1 ()) : wpL_lawOf post 7 2271 () x0 x1 x2 x3 x4 := by
  refine ⟨by decide, by decide, 6, 2261, by decide, by decide, by decide, by decide, by decide, by decide, by decide, by decide, by decide, by decide, by decide, by decide, by decide, by decide, ?_⟩
  exact br_c (fun h => sr_23 hp (Or.inl rfl) (fun _ => Or.inl h) (fun n => absurd rfl n)) (fun h => br_c (fun g => sr_23 hp (Or.inl rfl) (fun _ => Or.inr g) (fun n => absurd rfl n)) (fun g => sr_23 hp (Or.inr rfl) (fun e => absurd e (by decide)) (fun _ => ⟨h, g⟩)))
theorem sr_cell {ψ : Int32 → Prop} {L i : Nat} {xs : Nat → Int32} {p : Int32} (hi : i < 5) (hL : L ≤ 5) (ep : p = nI i) (H : ∀ x, ψ x) : wpL_cellAt ψ L xs () p :=
  pk_le L i (fun _ => H 0) (fun h => ⟨pk_in i L h ep, H _⟩) (hy := ep)
end
end
section
theorem i_vc (xs : Nat → Int32) (L : Nat) (hL : L ≤ 5) : wpL_law (fun r => r = 1) L xs :=
  sr_cell (i := 0) (by decide) hL rfl (fun _ => sr_cell (i := 1) (by decide) hL rfl (fun _ => sr_cell (i := 2) (by decide) hL rfl (fun _ => sr_cell (i := 3) (by decide) hL rfl (fun _ => sr_cell (i := 4) (by decide) hL rfl (fun _ => ⟨7, 2271, by decide, by decide, sr_lawOf rfl⟩)))))
end
