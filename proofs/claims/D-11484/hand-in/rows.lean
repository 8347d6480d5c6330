section
section
variable {rc ls : Int32} {a1 a2 a3 a4 a5 a6 a7 a8 a9 a10 a11 : Nat → Int32}
theorem hj_vi {i : Int32} {n : Nat} (h : 0 ≤ i.toInt ∧ i.toInt < (n : Int)) : vp_in i n := vp_in_iff.mpr h
/-- committed(i), by the place n -/
theorem hj_com {post : Int32 → Prop} (i : Int32) (n : Nat) (hn : i.toNatClampNeg = n) (hi : vp_in i 4) (h1 : a1 n = 1 → post 1) (h0 : ¬ a1 n = 1 → post 0) : wpX_committed post (2, 3, rc, ls, a1, a2, a3, a4, a5, a6, a7, a8, a9, a10, a11) i := by
  subst hn
  exact ⟨hi, h1, h0⟩
theorem hj_com0 {post : Int32 → Prop} (h1 : a1 0 = 1 → post 1) (h0 : ¬ a1 0 = 1 → post 0) : wpX_committed post (2, 3, rc, ls, a1, a2, a3, a4, a5, a6, a7, a8, a9, a10, a11) 0 :=
  hj_com 0 0 (by decide) (hj_vi (by decide)) h1 h0
theorem hj_com1 {post : Int32 → Prop} (h : a1 1 = 1) (h1 : post 1) : wpX_committed post (2, 3, rc, ls, a1, a2, a3, a4, a5, a6, a7, a8, a9, a10, a11) 1 :=
  hj_com 1 1 (by decide) (hj_vi (by decide)) (fun _ => h1) (fun z => absurd h z)
/-- nothing was read: clean -/
theorem hj_cr0 {post : Int32 → Prop} {p0 p1 : Int32} {k : Nat} (hk : (p0 * 4 + p1).toNatClampNeg = k) (hin : vp_in (p0 * 4 + p1) 16) (hi0 : vp_in (0 * 4 + p1) 16) (hi1 : vp_in (1 * 4 + p1) 16) (h : a3 k = 0) (hp : post 1) :
    wpX_cleanReads post (2, 3, rc, ls, a1, a2, a3, a4, a5, a6, a7, a8, a9, a10, a11) p0 p1 := by
  subst hk
  refine ⟨hin, nm_r h ⟨3, ?_⟩⟩
  refine br_f (by decide) (nm_r (e' := 0) (by decide) ⟨hi0, nm_e (br_t rfl (nm_r (e' := 1) (by decide) ?_))⟩)
  refine br_f (by decide) (nm_r (e' := 0) (by decide) ⟨hi1, nm_e (br_t rfl (nm_r (e' := 2) (by decide) ?_))⟩)
  exact br_t (by decide) hp
/-- transaction 1 read version 1 of transaction 0 at key 1 -/
theorem hj_cr1 {post : Int32 → Prop} (h : a3 5 = 2) (h1 : a1 0 = 1 ∧ a2 1 = 1 → post 1) (h0 : ¬ (a1 0 = 1 ∧ a2 1 = 1) → post 0) : wpX_cleanReads post (2, 3, rc, ls, a1, a2, a3, a4, a5, a6, a7, a8, a9, a10, a11) 1 1 := by
  refine ⟨hj_vi (by decide), nm_r (e' := 2) h ⟨3, ?_⟩⟩
  refine br_f (by decide) (nm_r (e' := 1) (by decide) ⟨hj_vi (by decide), nm_r (e' := a2 1) rfl (br_f (by decide) ?_)⟩)
  refine hj_com0 (fun s => br_f (by decide) (br_c (fun e => nm_r (e' := 1) (by decide) ?_) (fun e => h0 (fun z => e z.2.symm)))) (fun s => br_t rfl (h0 (fun z => s z.1)))
  refine br_f (by decide) (nm_r (e' := 0) (by decide) ⟨hj_vi (by decide), nm_e (br_t rfl (nm_r (e' := 2) (by decide) ?_))⟩)
  exact br_t (by decide) (h1 ⟨s, e.symm⟩)
/-- one turn of clean's inner loop where nothing was read -/
theorem hj_clS {post : Int32 → Prop} {J2 : Int32 → Prop} {n : Nat} (i x x' : Int32) (m k : Nat) (h : a3 k = 0) (H : wX_clean_12 post J2 i 2 3 rc ls a1 a2 a3 a4 a5 a6 a7 a8 a9 a10 a11 n x')
    (hx : ¬ (3 : Int32) ≤ x := by decide) (hm : i.toNatClampNeg = m := by decide) (hi : vp_in i 4 := by exact hj_vi (by decide)) (hk : (i * 4 + x).toNatClampNeg = k := by decide)
    (hin : vp_in (i * 4 + x) 16 := by exact hj_vi (by decide)) (h0 : vp_in (0 * 4 + x) 16 := by exact hj_vi (by decide)) (h1 : vp_in (1 * 4 + x) 16 := by exact hj_vi (by decide)) (e : x + 1 = x' := by decide) :
    wX_clean_12 post J2 i 2 3 rc ls a1 a2 a3 a4 a5 a6 a7 a8 a9 a10 a11 (n + 1) x :=
  br_f hx (hj_com i m hm hi (fun _ => br_f (by decide) (hj_cr0 hk hin h0 h1 h (br_f (by decide) (nm_r e H)))) (fun _ => br_t rfl (nm_r e H)))
/-- the picture: transaction 1 has committed, wrote nothing, and read at most version 1 of transaction 0 at key 1; no order is installed -/
def hj_A (a1 a2 a3 a5 : Nat → Int32) : Prop := a1 1 = 1 ∧ (a2 4 = 0 ∧ a2 5 = 0 ∧ a2 6 = 0) ∧ (a3 0 = 0 ∧ a3 1 = 0 ∧ a3 2 = 0 ∧ a3 4 = 0 ∧ a3 6 = 0) ∧ (a3 5 = 0 ∨ a3 5 = 2) ∧ (a5 0 = 0 ∧ a5 1 = 0 ∧ a5 2 = 0)
theorem hj_clean {post : Int32 → Prop} (A : hj_A a1 a2 a3 a5) (h1 : (a3 5 = 0 ∨ (a1 0 = 1 ∧ a2 1 = 1)) → post 1) (h0 : a3 5 = 2 → ¬ (a1 0 = 1 ∧ a2 1 = 1) → post 0) : wpX_clean post (2, 3, rc, ls, a1, a2, a3, a4, a5, a6, a7, a8, a9, a10, a11) := by
  obtain ⟨c1, _, ⟨b0, b1, b2, b4, b6⟩, b5, _⟩ := A
  refine ⟨3, br_f (by decide) ⟨4, ?_⟩⟩
  refine hj_clS 0 0 1 0 0 b0 (hj_clS 0 1 2 0 1 b1 (hj_clS 0 2 3 0 2 b2 (br_t (by decide) (nm_r (e' := 1) (by decide) ?_))))
  refine br_f (by decide) ⟨4, hj_clS 1 0 1 1 4 b4 ?_⟩
  rcases b5 with b5 | b5
  · refine hj_clS 1 1 2 1 5 b5 (hj_clS 1 2 3 1 6 b6 (br_t (by decide) (nm_r (e' := 2) (by decide) ?_)))
    exact br_t (by decide) (h1 (Or.inl b5))
  · refine br_f (by decide) (hj_com1 c1 (br_f (by decide) (hj_cr1 b5 (fun z => br_f (by decide) (nm_r (e' := 2) (by decide) ?_)) (fun z => br_t rfl (h0 b5 z)))))
    refine hj_clS 1 2 3 1 6 b6 (br_t (by decide) (nm_r (e' := 2) (by decide) ?_))
    exact br_t (by decide) (h1 (Or.inr z))
end
end
section
section
variable {rc ls : Int32} {a1 a2 a3 a4 a5 a6 a7 a8 a9 a10 a11 : Nat → Int32}
/-- the ranking of a key: nobody, or transaction 0 alone -/
theorem hj_rank {post : St2 → Prop} (x : Int32) (k1 k : Nat) (h5 : a5 k = 0) (hc : a1 1 = 1) (hw : a2 k1 = 0)
    (hk1 : (1 * 4 + x).toNatClampNeg = k1) (hk : x.toNatClampNeg = k) (hx : vp_in x 4) (i0 : vp_in (0 * 4 + x) 16) (i1 : vp_in (1 * 4 + x) 16)
    (hp : ∀ (c : Int32) (b : Nat → Int32), (c = 0 ∨ (c = 1 ∧ b 0 = 0)) → post (2, 3, c, ls, a1, a2, a3, a4, a5, b, a7, a8, a9, a10, a11)) : wpX_rank post (2, 3, rc, ls, a1, a2, a3, a4, a5, a6, a7, a8, a9, a10, a11) x := by
  subst hk1
  subst hk
  have T : ∀ (c : Int32) (b : Nat → Int32), (c = 0 ∨ (c = 1 ∧ b 0 = 0)) → wX_rank_77 post x 0 2 3 ls 2 1 c a1 a2 a3 a4 a5 b a7 a8 a9 a10 a11 := fun c b hcb =>
    br_f (by decide) (br_t (by decide) (br_f (by decide) (hj_com1 hc (br_f (by decide) ⟨i1, br_t (by rw [hw]; decide) (nm_r (e' := 2) (by decide) (br_t (by decide) (hp c b hcb)))⟩))))
  refine ⟨1, hx, br_t (by rw [h5]; decide) ⟨3, ?_⟩⟩
  refine br_f (by decide) (br_t (by decide) (br_f (by decide) (hj_com0 (fun _ => br_f (by decide) ⟨i0, br_c (fun _ => nm_r (e' := 1) (by decide) (T 0 a6 (Or.inl rfl))) (fun _ => ⟨hj_vi (by decide), ?_⟩)⟩) (fun _ => br_t rfl (nm_r (e' := 1) (by decide) (T 0 a6 (Or.inl rfl)))))))
  exact nm_r (e' := upd a6 0 0) rfl (nm_r (e' := 1) (by decide) (nm_r (e' := 1) (by decide) (T 1 _ (Or.inr ⟨rfl, rfl⟩))))
theorem hj_from1 {post : Int32 → Prop} (k : Int32) (hk : (1 : Int32) ≤ k) (hp : post 0) : wpX_from post (2, 3, 1, ls, a1, a2, a3, a4, a5, a6, a7, a8, a9, a10, a11) k := ⟨1, br_t hk hp⟩
/-- the edges: none, or one of the sources from 0 to 1 -/
def hj_B (a7 a8 a9 : Nat → Int32) : Prop := (a7 0 = 0 ∧ a7 1 = 0 ∧ a7 2 = 0 ∧ a7 3 = 0) ∧ ((a8 0 = 0 ∨ a8 0 = 2) ∧ a8 1 = 0 ∧ a8 2 = 0 ∧ a8 3 = 0) ∧ (a9 0 = 0 ∧ a9 1 = 0 ∧ a9 2 = 0 ∧ a9 3 = 0)
theorem hj_add0 {post : St2 → Prop} (i x : Int32) (k : Nat) (hk : (i * 4 + x).toNatClampNeg = k) (hin : vp_in (i * 4 + x) 16) (h : a3 k = 0) (c : Int32) (hc : c = 0 ∨ (c = 1 ∧ a6 0 = 0)) (hp : post (2, 3, c, ls, a1, a2, a3, a4, a5, a6, a7, a8, a9, a10, a11)) : wpX_addReads post (2, 3, c, ls, a1, a2, a3, a4, a5, a6, a7, a8, a9, a10, a11) i x := by
  subst hk
  refine ⟨hin, nm_r h (nm_e (br_t (by decide) ⟨2, ?_⟩))⟩
  rcases hc with rfl | ⟨rfl, h6⟩
  · exact br_t (by decide) hp
  · exact br_f (by decide) ⟨hj_vi (by decide), nm_r (e' := 0) h6 (br_t (by decide) (nm_r (e' := 1) (by decide) (br_t (by decide) hp)))⟩
theorem hj_add1 {post : St2 → Prop} (h : a3 5 = 2) (c : Int32) (hc : c = 0 ∨ (c = 1 ∧ a6 0 = 0)) (B : hj_B a7 a8 a9) (hp : ∀ b8 b9 : Nat → Int32, hj_B a7 b8 b9 → post (2, 3, c, ls, a1, a2, a3, a4, a5, a6, a7, b8, b9, a10, a11)) : wpX_addReads post (2, 3, c, ls, a1, a2, a3, a4, a5, a6, a7, a8, a9, a10, a11) 1 1 := by
  refine ⟨hj_vi (by decide), nm_r (e' := 2) h (nm_e (br_t (by decide) ⟨2, ?_⟩))⟩
  rcases hc with rfl | ⟨rfl, h6⟩
  · exact br_t (by decide) (hp a8 a9 B)
  · obtain ⟨b7, ⟨e0, e1, e2, e3⟩, g0, g1, g2, g3⟩ := B
    have E8 : (a8 0 ||| ((1 : Int32) <<< ((1 : Int32) &&& 31))).toInt8.toInt32 = 2 := by
      rcases e0 with z | z <;> rw [z] <;> decide
    have E9 : (a9 1 ||| ((0 : Int32) &&& (((1 : Int32) <<< ((1 : Int32) &&& 31)) ^^^ (-1)))).toInt8.toInt32 = 0 := by
      rw [g1]; decide
    refine br_f (by decide) ⟨hj_vi (by decide), nm_r (e' := 0) h6 (br_f (by decide) ⟨hj_vi (by decide), hj_vi (by decide), nm_r (e' := upd a8 0 2) (congrArg (upd a8 0) E8) ⟨hj_vi (by decide), ?_⟩⟩)⟩
    refine hj_from1 _ (by decide) ⟨hj_vi (by decide), nm_r (e' := upd a9 1 0) (congrArg (upd a9 1) E9) (nm_r (e' := 1) (by decide) (br_t (by decide) ?_))⟩
    exact hp _ _ ⟨b7, ⟨Or.inr rfl, e1, e2, e3⟩, g0, rfl, g2, g3⟩
theorem hj_51 {post : St2 → Prop} {J36 : Int32 → Int32 → Int32 → Int32 → Int32 → (Nat → Int32) → (Nat → Int32) → (Nat → Int32) → (Nat → Int32) → (Nat → Int32) → (Nat → Int32) → (Nat → Int32) → (Nat → Int32) → (Nat → Int32) → (Nat → Int32) → (Nat → Int32) → Prop} {x c : Int32}
    (hc : c = 0 ∨ (c = 1 ∧ a6 0 = 0)) (B : hj_B a7 a8 a9) (H : ∀ b7 : Nat → Int32, hj_B b7 a8 a9 → ∃ n, wX_build_98 post J36 x n 0 2 3 c ls a1 a2 a3 a4 a5 a6 b7 a8 a9 a10 a11) : ∃ n, wX_build_51 post J36 x 2 3 c ls n 0 a1 a2 a3 a4 a5 a6 a7 a8 a9 a10 a11 := by
  rcases hc with rfl | ⟨rfl, h6⟩
  · exact ⟨1, br_t (by decide) (H a7 B)⟩
  · obtain ⟨⟨g0, g1, g2, g3⟩, b8, b9⟩ := B
    have h6' : a6 (0 : Int32).toNatClampNeg = 0 := h6
    have hin : vp_in (a6 (0 : Int32).toNatClampNeg) 4 := by
      rw [h6']; exact hj_vi (by decide)
    have E : upd a7 (a6 (0 : Int32).toNatClampNeg).toNatClampNeg ((a7 (a6 (0 : Int32).toNatClampNeg).toNatClampNeg ||| 0).toInt8.toInt32) = upd a7 0 0 := by
      rw [h6']
      have E' : (a7 0 ||| 0).toInt8.toInt32 = 0 := by
        rw [g0]; decide
      exact congrArg (upd a7 0) E'
    refine ⟨2, br_f (by decide) ⟨hj_vi (by decide), hj_vi (by decide), hin, hj_from1 _ (by decide) ⟨hin, nm_r E (nm_r (e' := 1) (by decide) (br_t (by decide) (H _ ?_)))⟩⟩⟩
    exact ⟨⟨rfl, g1, g2, g3⟩, b8, b9⟩
theorem hj_98 {post : St2 → Prop} {J36 : Int32 → Int32 → Int32 → Int32 → Int32 → (Nat → Int32) → (Nat → Int32) → (Nat → Int32) → (Nat → Int32) → (Nat → Int32) → (Nat → Int32) → (Nat → Int32) → (Nat → Int32) → (Nat → Int32) → (Nat → Int32) → (Nat → Int32) → Prop} {x c : Int32} (x' : Int32) (k0 k1 : Nat)
    (c1 : a1 1 = 1) (h0 : a3 k0 = 0) (h1 : a3 k1 = 0 ∨ (x = 1 ∧ a3 5 = 2)) (e : x + 1 = x') (hk0 : (0 * 4 + x).toNatClampNeg = k0) (hk1 : (1 * 4 + x).toNatClampNeg = k1) (i0 : vp_in (0 * 4 + x) 16) (i1 : vp_in (1 * 4 + x) 16)
    (hc : c = 0 ∨ (c = 1 ∧ a6 0 = 0)) (B : hj_B a7 a8 a9) (H : ∀ b8 b9 : Nat → Int32, hj_B a7 b8 b9 → J36 x' 2 3 c ls a1 a2 a3 a4 a5 a6 a7 b8 b9 a10 a11) : ∃ n, wX_build_98 post J36 x n 0 2 3 c ls a1 a2 a3 a4 a5 a6 a7 a8 a9 a10 a11 := by
  refine ⟨3, ?_⟩
  have T2 : ∀ b8 b9 : Nat → Int32, hj_B a7 b8 b9 → wX_build_98 post J36 x 1 2 2 3 c ls a1 a2 a3 a4 a5 a6 a7 b8 b9 a10 a11 := fun b8 b9 hB => br_t (by decide) (nm_r e (H b8 b9 hB))
  have T : wX_build_98 post J36 x 2 1 2 3 c ls a1 a2 a3 a4 a5 a6 a7 a8 a9 a10 a11 := by
    refine br_f (by decide) (hj_com1 c1 (br_f (by decide) ?_))
    rcases h1 with h1 | ⟨rfl, h1⟩
    · exact hj_add0 1 x k1 hk1 i1 h1 c hc (nm_r (e' := 2) (by decide) (T2 a8 a9 B))
    · exact hj_add1 h1 c hc B (fun b8 b9 hB => nm_r (e' := 2) (by decide) (T2 b8 b9 hB))
  exact br_f (by decide) (hj_com0 (fun _ => br_f (by decide) (hj_add0 0 x k0 hk0 i0 h0 c hc (nm_r (e' := 1) (by decide) T))) (fun _ => br_t rfl (nm_r (e' := 1) (by decide) T)))
/-- one key of build's loop -/
theorem hj_key {post : St2 → Prop} {n : Nat} (x x' : Int32) (k k1 : Nat) (c1 : a1 1 = 1) (h5 : a5 k = 0) (hw : a2 k1 = 0) (h0 : a3 k = 0) (h1 : a3 k1 = 0 ∨ (x = 1 ∧ a3 5 = 2)) (B : hj_B a7 a8 a9)
    (H : ∀ (c : Int32) (b6 b7 b8 b9 : Nat → Int32), hj_B b7 b8 b9 → wX_build_36 post n x' 2 3 c ls a1 a2 a3 a4 a5 b6 b7 b8 b9 a10 a11)
    (hx : ¬ (3 : Int32) ≤ x := by decide) (e : x + 1 = x' := by decide) (hk : x.toNatClampNeg = k := by decide) (hk0 : (0 * 4 + x).toNatClampNeg = k := by decide) (hk1 : (1 * 4 + x).toNatClampNeg = k1 := by decide)
    (hx4 : vp_in x 4 := by exact hj_vi (by decide)) (i0 : vp_in (0 * 4 + x) 16 := by exact hj_vi (by decide)) (i1 : vp_in (1 * 4 + x) 16 := by exact hj_vi (by decide)) :
    wX_build_36 post (n + 1) x 2 3 rc ls a1 a2 a3 a4 a5 a6 a7 a8 a9 a10 a11 := by
  refine br_f hx (hj_rank x k1 k h5 c1 hw hk1 hk hx4 i0 i1 (fun c b hcb => hj_51 hcb B (fun b7 B7 => ?_)))
  exact hj_98 x' k k1 c1 h0 h1 e hk0 hk1 i0 i1 hcb B7 (fun b8 b9 hB => H c b b7 b8 b9 hB)
theorem hj_build {post : St2 → Prop} (A : hj_A a1 a2 a3 a5) (hp : ∀ (c : Int32) (b6 b7 b8 b9 : Nat → Int32), hj_B b7 b8 b9 → post (2, 3, c, ls, a1, a2, a3, a4, a5, b6, b7, b8, b9, a10, a11)) : wpX_build post (2, 3, rc, ls, a1, a2, a3, a4, a5, a6, a7, a8, a9, a10, a11) := by
  obtain ⟨c1, ⟨w4, w5, w6⟩, ⟨b0, b1, b2, b4, b6⟩, b5, ⟨s0, s1, s2⟩⟩ := A
  refine ⟨5, br_f (by decide) ⟨hj_vi (by decide), nm_r (e' := upd a7 0 0) rfl ⟨hj_vi (by decide), nm_r (e' := upd a8 0 0) rfl ⟨hj_vi (by decide), nm_r (e' := upd a9 0 0) rfl (nm_r (e' := 1) (by decide) ?_)⟩⟩⟩⟩
  refine br_f (by decide) ⟨hj_vi (by decide), nm_r (e' := upd (upd a7 0 0) 1 0) rfl ⟨hj_vi (by decide), nm_r (e' := upd (upd a8 0 0) 1 0) rfl ⟨hj_vi (by decide), nm_r (e' := upd (upd a9 0 0) 1 0) rfl (nm_r (e' := 2) (by decide) ?_)⟩⟩⟩
  refine br_f (by decide) ⟨hj_vi (by decide), nm_r (e' := upd (upd (upd a7 0 0) 1 0) 2 0) rfl ⟨hj_vi (by decide), nm_r (e' := upd (upd (upd a8 0 0) 1 0) 2 0) rfl ⟨hj_vi (by decide), nm_r (e' := upd (upd (upd a9 0 0) 1 0) 2 0) rfl (nm_r (e' := 3) (by decide) ?_)⟩⟩⟩
  refine br_f (by decide) ⟨hj_vi (by decide), nm_r (e' := upd (upd (upd (upd a7 0 0) 1 0) 2 0) 3 0) rfl ⟨hj_vi (by decide), nm_r (e' := upd (upd (upd (upd a8 0 0) 1 0) 2 0) 3 0) rfl ⟨hj_vi (by decide), nm_r (e' := upd (upd (upd (upd a9 0 0) 1 0) 2 0) 3 0) rfl (nm_r (e' := 4) (by decide) ?_)⟩⟩⟩
  refine br_t (by decide) ⟨4, ?_⟩
  refine hj_key 0 1 0 4 c1 s0 w4 b0 (Or.inl b4) ⟨⟨rfl, rfl, rfl, rfl⟩, ⟨Or.inl rfl, rfl, rfl, rfl⟩, rfl, rfl, rfl, rfl⟩ (fun c d6 d7 d8 d9 B => ?_)
  refine hj_key 1 2 1 5 c1 s1 w5 b1 (b5.imp id (fun z => ⟨rfl, z⟩)) B (fun c d6 d7 d8 d9 B => ?_)
  refine hj_key 2 3 2 6 c1 s2 w6 b2 (Or.inl b6) B (fun c d6 d7 d8 d9 B => ?_)
  exact br_t (by decide) (hp c d6 d7 d8 d9 B)
end
end
section
section
variable {rc ls : Int32} {a1 a2 a3 a4 a5 a6 a7 a8 a9 a10 a11 : Nat → Int32}
theorem hj_cs {post : Int32 → Prop} (c1 : a1 1 = 1) (h1 : a1 0 = 1 → post 3) (h0 : ¬ a1 0 = 1 → post 2) : wpX_committedSet post (2, 3, rc, ls, a1, a2, a3, a4, a5, a6, a7, a8, a9, a10, a11) := by
  refine ⟨3, br_f (by decide) (hj_com0 (fun s => br_f (by decide) (nm_r (e' := 1) (by decide) (nm_r (e' := 1) (by decide) ?_))) (fun s => br_t rfl (nm_r (e' := 1) (by decide) ?_)))⟩
  · exact br_f (by decide) (hj_com1 c1 (br_f (by decide) (nm_r (e' := 3) (by decide) (nm_r (e' := 2) (by decide) (br_t (by decide) (h1 s))))))
  · exact br_f (by decide) (hj_com1 c1 (br_f (by decide) (nm_r (e' := 2) (by decide) (nm_r (e' := 2) (by decide) (br_t (by decide) (h0 s))))))
/-- both wait: 0 is free -/
theorem hj_lf3 {post : Int32 → Prop} {h : Int32} (hh : h = 0 ∨ h = 2) (e0 : a10 0 = h) (e1 : a10 1 = 0) (hp : post 0) : wpX_leastFree post (2, 3, rc, ls, a1, a2, a3, a4, a5, a6, a7, a8, a9, a10, a11) 3 := by
  have K : ∃ n, wX_leastFree_34 post 3 h 2 3 rc ls a1 a2 a3 a4 a5 a6 a7 a8 a9 a10 a11 n 0 := by
    rcases hh with rfl | rfl
    · exact ⟨1, br_f (by decide) (br_f (by decide) hp)⟩
    · exact ⟨1, br_f (by decide) (br_f (by decide) hp)⟩
  have E0 : (0 : Int32) ||| a10 0 = h := by
    rw [e0]; rcases hh with rfl | rfl <;> decide
  have E1 : h ||| a10 1 = h := by
    rw [e1]; rcases hh with rfl | rfl <;> decide
  refine ⟨5, br_f (by decide) (br_f (by decide) ⟨hj_vi (by decide), nm_r (e' := h) E0 (nm_r (e' := 1) (by decide) ?_)⟩)⟩
  refine br_f (by decide) (br_f (by decide) ⟨hj_vi (by decide), nm_r (e' := h) E1 (nm_r (e' := 2) (by decide) ?_)⟩)
  refine br_f (by decide) (br_t (by decide) (nm_r (e' := 3) (by decide) ?_))
  refine br_f (by decide) (br_t (by decide) (nm_r (e' := 4) (by decide) ?_))
  exact br_t (by decide) K
/-- 1 alone waits -/
theorem hj_lf2 {post : Int32 → Prop} (e1 : a10 1 = 0) (hp : post 1) : wpX_leastFree post (2, 3, rc, ls, a1, a2, a3, a4, a5, a6, a7, a8, a9, a10, a11) 2 := by
  have E1 : (0 : Int32) ||| a10 1 = 0 := by
    rw [e1]; decide
  refine ⟨5, br_f (by decide) (br_t (by decide) (nm_r (e' := 1) (by decide) ?_))⟩
  refine br_f (by decide) (br_f (by decide) ⟨hj_vi (by decide), nm_r (e' := 0) E1 (nm_r (e' := 2) (by decide) ?_)⟩)
  refine br_f (by decide) (br_t (by decide) (nm_r (e' := 3) (by decide) ?_))
  refine br_f (by decide) (br_t (by decide) (nm_r (e' := 4) (by decide) ?_))
  exact br_t (by decide) ⟨2, br_f (by decide) (br_t (by decide) (nm_r (e' := 1) (by decide) (br_f (by decide) (br_f (by decide) hp))))⟩
theorem hj_list {post : Int32 → St2 → Prop} {h : Int32} (hh : h = 0 ∨ h = 2) (c1 : a1 1 = 1) (e0 : a10 0 = h) (e1 : a10 1 = 0)
    (hp : ∀ (l : Int32) (b : Nat → Int32), (0 : Int32) < l → (a1 0 = 1 → b 0 = 0) → (¬ a1 0 = 1 → b 0 = 1) → post 1 (2, 3, rc, l, a1, a2, a3, a4, a5, a6, a7, a8, a9, a10, b)) : wpX_listByEdges post (2, 3, rc, ls, a1, a2, a3, a4, a5, a6, a7, a8, a9, a10, a11) := by
  refine hj_cs c1 (fun s => ⟨3, ?_⟩) (fun s => ⟨2, ?_⟩)
  · refine br_f (by decide) (br_f (by decide) (hj_lf3 hh e0 e1 (br_t (by decide) ⟨hj_vi (by decide), nm_r (e' := upd a11 0 0) rfl (nm_r (e' := 1) (by decide) (nm_r (e' := 2) (by decide) (nm_r (e' := 1) (by decide) ?_)))⟩)))
    refine br_f (by decide) (br_f (by decide) (hj_lf2 e1 (br_t (by decide) ⟨hj_vi (by decide), nm_r (e' := upd (upd a11 0 0) 1 1) rfl (nm_r (e' := 2) (by decide) (nm_r (e' := 0) (by decide) (nm_r (e' := 2) (by decide) ?_)))⟩)))
    exact br_f (by decide) (br_t rfl (hp 2 _ (by decide) (fun _ => rfl) (fun z => absurd s z)))
  · refine br_f (by decide) (br_f (by decide) (hj_lf2 e1 (br_t (by decide) ⟨hj_vi (by decide), nm_r (e' := upd a11 0 1) rfl (nm_r (e' := 1) (by decide) (nm_r (e' := 0) (by decide) (nm_r (e' := 1) (by decide) ?_)))⟩)))
    exact br_f (by decide) (br_t rfl (hp 1 _ (by decide) (fun z => absurd z s) (fun _ => rfl)))
/-- edges of the four cells, one turn -/
theorem hj_15 {post : Int32 → St2 → Prop} {n : Nat} (i i' : Int32) (k : Nat) (v : Int32) (hv : (((a7 k) ||| (a8 k)) ||| (a9 k)).toInt8.toInt32 = v) (H : wX_serial_15 post 2 3 rc ls n i' a1 a2 a3 a4 a5 a6 a7 a8 a9 (upd a10 k v) a11)
    (hi : ¬ (4 : Int32) ≤ i := by decide) (hk : i.toNatClampNeg = k := by decide) (hin : vp_in i 4 := by exact hj_vi (by decide)) (e : i + 1 = i' := by decide) : wX_serial_15 post 2 3 rc ls (n + 1) i a1 a2 a3 a4 a5 a6 a7 a8 a9 a10 a11 := by
  subst hk
  subst hv
  exact br_f hi ⟨hin, hin, hin, hin, nm_e (nm_r e H)⟩
theorem hj_serial {post : Int32 → St2 → Prop} (A : hj_A a1 a2 a3 a5)
    (hp1 : (a3 5 = 0 ∨ (a1 0 = 1 ∧ a2 1 = 1)) → ∀ (c l : Int32) (b6 b7 b8 b9 b10 b11 : Nat → Int32), (0 : Int32) < l → (a1 0 = 1 → b11 0 = 0) → (¬ a1 0 = 1 → b11 0 = 1) → post 1 (2, 3, c, l, a1, a2, a3, a4, a5, b6, b7, b8, b9, b10, b11))
    (hp0 : a3 5 = 2 → ¬ (a1 0 = 1 ∧ a2 1 = 1) → post 0 (2, 3, rc, ls, a1, a2, a3, a4, a5, a6, a7, a8, a9, a10, a11)) : wpX_serial post (2, 3, rc, ls, a1, a2, a3, a4, a5, a6, a7, a8, a9, a10, a11) := by
  refine hj_clean A (fun z => br_f (by decide) (hj_build A (fun c b6 b7 b8 b9 B => ⟨5, ?_⟩))) (fun z1 z2 => br_t rfl (hp0 z1 z2))
  obtain ⟨⟨g0, g1, g2, g3⟩, ⟨e0, e1, e2, e3⟩, f0, f1, f2, f3⟩ := B
  have V : ∃ h : Int32, (h = 0 ∨ h = 2) ∧ (((b7 0) ||| (b8 0)) ||| (b9 0)).toInt8.toInt32 = h := by
    rcases e0 with z | z
    · exact ⟨0, Or.inl rfl, by rw [g0, z, f0]; decide⟩
    · exact ⟨2, Or.inr rfl, by rw [g0, z, f0]; decide⟩
  obtain ⟨h, hh, hv⟩ := V
  refine hj_15 0 1 0 h hv (hj_15 1 2 1 0 (by rw [g1, e1, f1]; decide) (hj_15 2 3 2 0 (by rw [g2, e2, f2]; decide) (hj_15 3 4 3 0 (by rw [g3, e3, f3]; decide) ?_)))
  exact br_t (by decide) (hj_list hh A.1 rfl rfl (fun l b hl h1 h0 => ⟨rfl, hp1 z c l b6 b7 b8 b9 _ b hl h1 h0⟩))
theorem hj_serialAt {post : Int32 → St2 → Prop} (A : hj_A a1 a2 a3 a5)
    (hp1 : (a3 5 = 0 ∨ (a1 0 = 1 ∧ a2 1 = 1)) → ∀ (f : Int32) (u : St2), (a1 0 = 1 → f = 0) → (¬ a1 0 = 1 → f = 1) → post f u)
    (hp0 : a3 5 = 2 → ¬ (a1 0 = 1 ∧ a2 1 = 1) → ∀ u : St2, post (-1) u) : wpX_serialAt post (2, 3, rc, ls, a1, a2, a3, a4, a5, a6, a7, a8, a9, a10, a11) 0 := by
  unfold wpX_serialAt
  exact hj_serial A (fun z c l b6 b7 b8 b9 b10 b11 hl h1 h0 => br_f (by decide) (br_f (by decide) (br_t hl ⟨hj_vi (by decide), hp1 z _ _ h1 h0⟩))) (fun z1 z2 => br_t rfl (hp0 z1 z2 _))
end
end
section
section
variable {rc ls : Int32} {a1 a2 a3 a4 a5 a6 a7 a8 a9 a10 a11 : Nat → Int32}
theorem hj_writeK {post : Int32 → St2 → Prop} (x : Int32) (k : Nat) (v : Int32) (h1 : a1 0 = 0) (h2 : a2 k < 2) (hv : (a2 k + 1).toInt8.toInt32 = v) (hp : post v (2, 3, rc, ls, a1, (upd a2 k v), a3, a4, a5, a6, a7, a8, a9, a10, a11))
    (hx : ¬ x < 0 := by decide) (hx3 : ¬ (3 : Int32) ≤ x := by decide) (hk : ((0 : Int32) * 4 + x).toNatClampNeg = k := by decide) (hi : vp_in (0 * 4 + x) 16 := by exact hj_vi (by decide)) : wpX_write post (2, 3, rc, ls, a1, a2, a3, a4, a5, a6, a7, a8, a9, a10, a11) 0 x := by
  subst hk
  subst hv
  refine br_f (by decide) (br_f (by decide) (br_f (by decide) (br_f hx (br_f hx3 (br_f (by decide) ⟨hj_vi (by decide), br_t h1 (nm_e ⟨hi, br_t h2 ⟨hi, hi, nm_e ⟨hi, ?_⟩⟩⟩)⟩)))))
  rw [pk_us]
  exact hp
theorem hj_writeB {post : Int32 → St2 → Prop} (x : Int32) (h : x < 0 ∨ (3 : Int32) ≤ x) (hp : post (-1) (2, 3, rc, ls, a1, a2, a3, a4, a5, a6, a7, a8, a9, a10, a11)) : wpX_write post (2, 3, rc, ls, a1, a2, a3, a4, a5, a6, a7, a8, a9, a10, a11) 0 x := by
  refine br_f (by decide) (br_f (by decide) (br_f (by decide) ?_))
  by_cases hx : x < 0
  · exact br_t hx (br_t rfl hp)
  · exact br_f hx (br_t (h.resolve_left hx) (br_t rfl hp))
theorem hj_writeC {post : Int32 → St2 → Prop} (h1 : ¬ a1 0 = 0) (hp : post (-2) (2, 3, rc, ls, a1, a2, a3, a4, a5, a6, a7, a8, a9, a10, a11)) : wpX_write post (2, 3, rc, ls, a1, a2, a3, a4, a5, a6, a7, a8, a9, a10, a11) 0 1 :=
  br_f (by decide) (br_f (by decide) (br_f (by decide) (br_f (by decide) (br_f (by decide) (br_f (by decide) ⟨hj_vi (by decide), br_f h1 hp⟩)))))
theorem hj_close0 {post : Int32 → St2 → Prop} (t : Int32) (h1 : a1 0 = 0) (hp : post 0 (2, 3, rc, ls, (upd a1 0 t), a2, a3, a4, a5, a6, a7, a8, a9, a10, a11)) (ht : t.toInt8.toInt32 = t := by decide) : wpX_close post (2, 3, rc, ls, a1, a2, a3, a4, a5, a6, a7, a8, a9, a10, a11) 0 t :=
  br_f (by decide) (br_f (by decide) (br_f (by decide) ⟨hj_vi (by decide), br_t h1 ⟨hj_vi (by decide), nm_r (congrArg (upd a1 0) ht) hp⟩⟩))
theorem hj_close1 {post : Int32 → St2 → Prop} (t : Int32) (h1 : a1 1 = 0) (hp : post 0 (2, 3, rc, ls, (upd a1 1 t), a2, a3, a4, a5, a6, a7, a8, a9, a10, a11)) (ht : t.toInt8.toInt32 = t := by decide) : wpX_close post (2, 3, rc, ls, a1, a2, a3, a4, a5, a6, a7, a8, a9, a10, a11) 1 t :=
  br_f (by decide) (br_f (by decide) (br_f (by decide) ⟨hj_vi (by decide), br_t h1 ⟨hj_vi (by decide), nm_r (congrArg (upd a1 1) ht) hp⟩⟩))
theorem hj_commit0 {post : Int32 → St2 → Prop} (h1 : a1 0 = 0) (hp : post 0 (2, 3, rc, ls, (upd a1 0 1), a2, a3, a4, a5, a6, a7, a8, a9, a10, a11)) : wpX_commit post (2, 3, rc, ls, a1, a2, a3, a4, a5, a6, a7, a8, a9, a10, a11) 0 := by
  unfold wpX_commit
  exact hj_close0 1 h1 hp
theorem hj_abort0 {post : Int32 → St2 → Prop} (h1 : a1 0 = 0) (hp : post 0 (2, 3, rc, ls, (upd a1 0 2), a2, a3, a4, a5, a6, a7, a8, a9, a10, a11)) : wpX_abort post (2, 3, rc, ls, a1, a2, a3, a4, a5, a6, a7, a8, a9, a10, a11) 0 := by
  unfold wpX_abort
  exact hj_close0 2 h1 hp
theorem hj_commit1 {post : Int32 → St2 → Prop} (h1 : a1 1 = 0) (hp : post 0 (2, 3, rc, ls, (upd a1 1 1), a2, a3, a4, a5, a6, a7, a8, a9, a10, a11)) : wpX_commit post (2, 3, rc, ls, a1, a2, a3, a4, a5, a6, a7, a8, a9, a10, a11) 1 := by
  unfold wpX_commit
  exact hj_close1 1 h1 hp
/-- an int: below 0, from 3 on, or one of three -/
theorem hj_3 (x : Int32) : x < 0 ∨ (3 : Int32) ≤ x ∨ x = 0 ∨ x = 1 ∨ x = 2 := by
  rcases pk_ix x (n := 3) (by decide) with h | h | ⟨j, hj, e⟩
  · exact Or.inl h
  · exact Or.inr (Or.inl h)
  · right; right
    match j, hj, e with
    | 0, _, e => exact Or.inl e
    | 1, _, e => exact Or.inr (Or.inl e)
    | 2, _, e => exact Or.inr (Or.inr e)
/-- what the read answers, and what it leaves of reads -/
def hj_R (x v r : Int32) (b : Nat → Int32) : Prop := (x < 0 ∨ (3 : Int32) ≤ x → r = -1) ∧ (x = 1 ∧ v = 1 → r = 0) ∧ (¬ x < 0 → ¬ (3 : Int32) ≤ x → ¬ (x = 1 ∧ v = 1) → r = -3) ∧ (b 0 = 0 ∧ b 1 = 0 ∧ b 2 = 0 ∧ b 4 = 0 ∧ b 6 = 0) ∧ ((¬ r = 0 ∧ b 5 = 0) ∨ (r = 0 ∧ b 5 = 2))
/-- what the second write answers, and what it leaves of writes -/
def hj_W (y r : Int32) (b : Nat → Int32) : Prop := (y < 0 → r = -1) ∧ (¬ y < 0 → ¬ y ≤ 2 → r = -1) ∧ (y = 1 → r = 2) ∧ (¬ y < 0 → y ≤ 2 → ¬ y = 1 → r = 1) ∧ (b 4 = 0 ∧ b 5 = 0 ∧ b 6 = 0) ∧ ((y = 1 ∧ b 1 = 2) ∨ (¬ y = 1 ∧ b 1 = 1))
theorem hj_readE {post : Int32 → St2 → Prop} (x v : Int32) (h : ((¬ x < 0 → ¬ (3 : Int32) ≤ x → (vp_in (0 * 4 + x) 16 ∧ (v < 1 ∨ ¬ v ≤ a2 (0 * 4 + x).toNatClampNeg)) ))) (h1 : a1 1 = 0)
    (hb : x < 0 ∨ (3 : Int32) ≤ x → post (-1) (2, 3, rc, ls, a1, a2, a3, a4, a5, a6, a7, a8, a9, a10, a11)) (hp : ¬ x < 0 → ¬ (3 : Int32) ≤ x → post (-3) (2, 3, rc, ls, a1, a2, a3, a4, a5, a6, a7, a8, a9, a10, a11)) : wpX_read post (2, 3, rc, ls, a1, a2, a3, a4, a5, a6, a7, a8, a9, a10, a11) 1 x 0 v := by
  refine br_f (by decide) (br_f (by decide) (br_f (by decide) (br_f (by decide) (br_f (by decide) (br_f (by decide) ?_)))))
  by_cases hx : x < 0
  · exact br_t hx (br_t rfl (hb (Or.inl hx)))
  · by_cases hx3 : (3 : Int32) ≤ x
    · exact br_f hx (br_t hx3 (br_t rfl (hb (Or.inr hx3))))
    · refine br_f hx (br_f hx3 (br_f (by decide) (br_f (by decide) ⟨hj_vi (by decide), br_t h1 ?_⟩)))
      obtain ⟨hi, hv⟩ := h hx hx3
      exact br_c (fun _ => hp hx hx3) (fun z => ⟨hi, br_f (hv.resolve_left z) (hp hx hx3)⟩)
theorem hj_readK {post : Int32 → St2 → Prop} (h1 : a1 1 = 0) (h2 : a2 1 = 1) (h3 : a3 5 = 0) (hp : post 0 (2, 3, rc, ls, a1, a2, (upd a3 5 2), a4, a5, a6, a7, a8, a9, a10, a11)) : wpX_read post (2, 3, rc, ls, a1, a2, a3, a4, a5, a6, a7, a8, a9, a10, a11) 1 1 0 1 := by
  have E : (a3 5 ||| ((1 : Int32) <<< (((2 * 0) + 1 : Int32) &&& 31))).toInt16.toInt32 = 2 := by
    rw [h3]; decide
  have L : (1 : Int32) ≤ a2 1 := by
    rw [h2]; decide
  refine br_f (by decide) (br_f (by decide) (br_f (by decide) (br_f (by decide) (br_f (by decide) (br_f (by decide) (br_f (by decide) (br_f (by decide) (br_f (by decide) (br_f (by decide) ⟨hj_vi (by decide), br_t h1 (br_f (by decide) ⟨hj_vi (by decide), br_t L ?_⟩)⟩)))))))))
  exact nm_e (nm_e ⟨hj_vi (by decide), hj_vi (by decide), nm_r (congrArg (upd a3 5) E) hp⟩)
end
end
section
section
variable {rc ls : Int32} {a1 a2 a3 a4 a5 a6 a7 a8 a9 a10 a11 : Nat → Int32}
theorem hj_lt1 (v : Int32) : v < 1 ∨ ¬ v ≤ 0 := by
  rw [Int32.lt_iff_toInt_lt, Int32.le_iff_toInt_le]
  have h0 : (0 : Int32).toInt = 0 := by decide
  have h1 : (1 : Int32).toInt = 1 := by decide
  omega
theorem hj_lt2 (v : Int32) (h : ¬ v = 1) : v < 1 ∨ ¬ v ≤ 1 := by
  rw [Int32.lt_iff_toInt_lt, Int32.le_iff_toInt_le]
  have h1 : (1 : Int32).toInt = 1 := by decide
  have h2 : ¬ v.toInt = (1 : Int32).toInt := fun z => h (Int32.toInt_inj.mp z)
  omega
theorem hj_read {post : Int32 → St2 → Prop} (x v : Int32) (h1 : a1 1 = 0) (w : a2 0 = 0 ∧ a2 1 = 1 ∧ a2 2 = 0) (b : a3 0 = 0 ∧ a3 1 = 0 ∧ a3 2 = 0 ∧ a3 4 = 0 ∧ a3 6 = 0) (b5 : a3 5 = 0)
    (H : ∀ (r : Int32) (b3 : Nat → Int32), hj_R x v r b3 → post r (2, 3, rc, ls, a1, a2, b3, a4, a5, a6, a7, a8, a9, a10, a11)) : wpX_read post (2, 3, rc, ls, a1, a2, a3, a4, a5, a6, a7, a8, a9, a10, a11) 1 x 0 v := by
  by_cases hk : x = 1 ∧ v = 1
  · obtain ⟨rfl, rfl⟩ := hk
    exact hj_readK h1 w.2.1 b5 (H 0 _ ⟨fun z => absurd z (by decide), fun _ => rfl, fun _ _ z => absurd ⟨rfl, rfl⟩ z, b, Or.inr ⟨rfl, rfl⟩⟩)
  · have G1 : x < 0 ∨ (3 : Int32) ≤ x → hj_R x v (-1) a3 := fun z => ⟨fun _ => rfl, fun q => absurd q hk, fun q1 q2 => absurd z (fun q => q.elim q1 q2), b, Or.inl ⟨by decide, b5⟩⟩
    have G3 : ¬ x < 0 → ¬ (3 : Int32) ≤ x → hj_R x v (-3) a3 := fun z1 z2 => ⟨fun z => absurd z (fun q => q.elim z1 z2), fun q => absurd q hk, fun _ _ _ => rfl, b, Or.inl ⟨by decide, b5⟩⟩
    refine hj_readE x v (fun hx hx3 => ?_) h1 (fun z => H (-1) a3 (G1 z)) (fun z1 z2 => H (-3) a3 (G3 z1 z2))
    rcases hj_3 x with q | q | rfl | rfl | rfl
    · exact absurd q hx
    · exact absurd q hx3
    · refine ⟨hj_vi (by decide), ?_⟩
      have e : a2 ((0 : Int32) * 4 + 0).toNatClampNeg = 0 := w.1
      rw [e]
      exact hj_lt1 v
    · refine ⟨hj_vi (by decide), ?_⟩
      have e : a2 ((0 : Int32) * 4 + 1).toNatClampNeg = 1 := w.2.1
      rw [e]
      exact hj_lt2 v (fun z => hk ⟨rfl, z⟩)
    · refine ⟨hj_vi (by decide), ?_⟩
      have e : a2 ((0 : Int32) * 4 + 2).toNatClampNeg = 0 := w.2.2
      rw [e]
      exact hj_lt1 v
theorem hj_write2 {post : Int32 → St2 → Prop} (y : Int32) (h1 : a1 0 = 0) (w0 : a2 0 = 0) (w1 : a2 1 = 1) (w2 : a2 2 = 0) (w : a2 4 = 0 ∧ a2 5 = 0 ∧ a2 6 = 0)
    (H : ∀ (r : Int32) (b2 : Nat → Int32), hj_W y r b2 → post r (2, 3, rc, ls, a1, b2, a3, a4, a5, a6, a7, a8, a9, a10, a11)) : wpX_write post (2, 3, rc, ls, a1, a2, a3, a4, a5, a6, a7, a8, a9, a10, a11) 0 y := by
  rcases hj_3 y with q | q | rfl | rfl | rfl
  · have n1 : ¬ y = 1 := fun e => absurd q (by rw [e]; decide)
    exact hj_writeB y (Or.inl q) (H (-1) a2 ⟨fun _ => rfl, fun _ _ => rfl, fun e => absurd e n1, fun z => absurd q z, w, Or.inr ⟨n1, w1⟩⟩)
  · have n1 : ¬ y = 1 := fun e => absurd q (by rw [e]; decide)
    exact hj_writeB y (Or.inr q) (H (-1) a2 ⟨fun _ => rfl, fun _ _ => rfl, fun e => absurd e n1, fun _ z => absurd (Int32.le_trans q z) (by decide), w, Or.inr ⟨n1, w1⟩⟩)
  · exact hj_writeK 0 0 1 h1 (by rw [w0]; decide) (by rw [w0]; decide) (H 1 _ ⟨fun z => absurd z (by decide), fun _ z => absurd (by decide) z, fun z => absurd z (by decide), fun _ _ _ => rfl, w, Or.inr ⟨by decide, w1⟩⟩)
  · exact hj_writeK 1 1 2 h1 (by rw [w1]; decide) (by rw [w1]; decide) (H 2 _ ⟨fun z => absurd z (by decide), fun _ z => absurd (by decide) z, fun _ => rfl, fun _ _ z => absurd rfl z, w, Or.inl ⟨rfl, rfl⟩⟩)
  · exact hj_writeK 2 2 1 h1 (by rw [w2]; decide) (by rw [w2]; decide) (H 1 _ ⟨fun z => absurd z (by decide), fun _ z => absurd (by decide) z, fun z => absurd z (by decide), fun _ _ _ => rfl, w, Or.inr ⟨by decide, w1⟩⟩)
/-- the law's last rows: what is due against what was answered -/
theorem hj_end {post : Int32 → St0 → Prop} {mc ms kc ks : Nat} {x0 x1 x2 x3 x6 x7 c s f : Int32} (hp : post 1 ())
    (R : x0 < 0 ∨ (3 : Int32) ≤ x0 → x6 = -1) (R0 : x0 = 1 ∧ x1 = 1 → x6 = 0) (R3 : ¬ x0 < 0 → ¬ (3 : Int32) ≤ x0 → ¬ (x0 = 1 ∧ x1 = 1) → x6 = -3)
    (W1 : x2 < 0 → x7 = -1) (W2 : ¬ x2 < 0 → ¬ x2 ≤ 2 → x7 = -1) (W3 : x2 = 1 → x7 = 2) (W4 : ¬ x2 < 0 → x2 ≤ 2 → ¬ x2 = 1 → x7 = 1)
    (C0 : x6 = 0 → (¬ (x3 &&& 1) = 0 ∨ x2 = 1) → c = 0 ∧ s = 0 ∧ f = -1)
    (C1 : (¬ x6 = 0 ∨ ((x3 &&& 1) = 0 ∧ ¬ x2 = 1)) → c = 1 ∧ s = 1 ∧ ((x3 &&& 1) = 0 → f = 0) ∧ (¬ (x3 &&& 1) = 0 → f = 1)) :
    ((x0 < 0 → (wL_lawOf_115 post mc ms x0 x1 x2 x3 1 x6 x7 0 (-2) 0 c s f kc ks)) ∧ (¬ x0 < 0 → ((((3 : Int32) ≤ x0 → (wL_lawOf_115 post mc ms x0 x1 x2 x3 1 x6 x7 0 (-2) 0 c s f kc ks)) ∧ (¬ (3 : Int32) ≤ x0 → (wL_lawOf_116 post mc ms x0 x1 x2 x3 1 x6 x7 0 (-2) 0 c s f 1 kc ks)))))) := by
  have F224 : ∀ x18 z : Int32, c = x18 → s = x18 → f = z → wL_lawOf_224 post mc ms 1 x6 x7 0 (-2) 0 c s f x6 x7 x18 z kc ks := fun _ _ e1 e2 e3 =>
    br_t rfl (br_t rfl (br_t rfl (br_t rfl (br_t rfl (br_t rfl (br_t e1 (br_t e2 (br_t e3 hp))))))))
  have F168 : ∀ z : Int32, x7 = z → wL_lawOf_168 post mc ms x2 x3 1 x6 x7 0 (-2) 0 c s f x6 z kc ks := by
    intro z hz
    subst hz
    refine br_c (fun hl => ?_) (fun hl => ?_)
    · by_cases h6 : x6 = 0
      · by_cases h2 : x2 = 1
        · obtain ⟨e1, e2, e3⟩ := C0 h6 (Or.inr h2)
          exact br_t h6 (br_f (by decide) (br_t h2 (br_t rfl (F224 0 (-1) e1 e2 e3))))
        · obtain ⟨e1, e2, e3, _⟩ := C1 (Or.inr ⟨hl, h2⟩)
          exact br_t h6 (br_f (by decide) (br_f h2 (br_f (by decide) (br_f (by decide) (F224 1 0 e1 e2 (e3 hl))))))
      · obtain ⟨e1, e2, e3, _⟩ := C1 (Or.inl h6)
        exact br_f h6 (br_f (by decide) (br_f (by decide) (F224 1 0 e1 e2 (e3 hl))))
    · by_cases h6 : x6 = 0
      · obtain ⟨e1, e2, e3⟩ := C0 h6 (Or.inl hl)
        exact br_t h6 (br_t rfl (br_t rfl (F224 0 (-1) e1 e2 e3)))
      · obtain ⟨e1, e2, _, e4⟩ := C1 (Or.inl h6)
        exact br_f h6 (br_f (by decide) (br_t rfl (F224 1 1 e1 e2 (e4 hl))))
  have F143 : ∀ z : Int32, x6 = z → wL_lawOf_143 post mc ms x2 x3 1 x6 x7 0 (-2) 0 c s f z kc ks := by
    intro z hz
    subst hz
    exact br_c (fun h => F168 (-1) (W1 h)) (fun h => br_c (fun h2 => br_c (fun e => F168 2 (W3 e)) (fun e => F168 1 (W4 h h2 e))) (fun h2 => F168 (-1) (W2 h h2)))
  exact br_c (fun h => br_t rfl (F143 (-1) (R (Or.inl h)))) (fun h => br_c (fun h3 => br_t rfl (F143 (-1) (R (Or.inr h3))))
    (fun h3 => br_f (by decide) (br_c (fun e0 => br_c (fun e1 => F143 0 (R0 ⟨e0, e1⟩)) (fun e1 => F143 (-3) (R3 h h3 (fun z => e1 z.2)))) (fun e0 => F143 (-3) (R3 h h3 (fun z => e0 z.1))))))
/-- behind the end of transaction 0 -/
theorem hj_61 {post : Int32 → St0 → Prop} {mc ms kc ks : Nat} {x0 x1 x2 x3 x6 x7 : Int32} (hp : post 1 ()) (R : hj_R x0 x1 x6 a3) (W : hj_W x2 x7 a2)
    (ht : ((x3 &&& 1) = 0 ∧ a1 0 = 1) ∨ (¬ (x3 &&& 1) = 0 ∧ a1 0 = 2)) (h1 : a1 1 = 0) (h5 : a5 0 = 0 ∧ a5 1 = 0 ∧ a5 2 = 0) :
    wL_lawOf_61 post mc ms x0 x1 x2 x3 1 x6 x7 0 kc ks 2 3 rc ls a1 a2 a3 a4 a5 a6 a7 a8 a9 a10 a11 := by
  obtain ⟨R1, R2, R3, R4, R5⟩ := R
  obtain ⟨W1, W2, W3, W4, W5, W6⟩ := W
  have hn : ¬ a1 0 = 0 := by
    rcases ht with ⟨_, e⟩ | ⟨_, e⟩ <;> rw [e] <;> decide
  have hl : (x3 &&& 1) = 0 ↔ a1 0 = 1 := by
    rcases ht with ⟨q, e⟩ | ⟨q, e⟩
    · exact ⟨fun _ => e, fun _ => q⟩
    · exact ⟨fun z => absurd z q, fun z => absurd (e.symm.trans z) (by decide)⟩
  have hr : x6 = 0 ↔ a3 5 = 2 := by
    rcases R5 with ⟨q, e⟩ | ⟨q, e⟩
    · exact ⟨fun z => absurd z q, fun z => absurd (e.symm.trans z) (by decide)⟩
    · exact ⟨fun _ => e, fun _ => q⟩
  have hy : x2 = 1 ↔ ¬ a2 1 = 1 := by
    rcases W6 with ⟨q, e⟩ | ⟨q, e⟩
    · exact ⟨fun _ z => absurd (e.symm.trans z) (by decide), fun _ => q⟩
    · exact ⟨fun z => absurd z q, fun z => absurd e z⟩
  have h35 : a3 5 = 0 ∨ a3 5 = 2 := by
    rcases R5 with ⟨_, e⟩ | ⟨_, e⟩
    · exact Or.inl e
    · exact Or.inr e
  have A : hj_A (upd a1 1 1) a2 a3 a5 := ⟨rfl, W5, R4, h35, h5⟩
  have N : ∀ (p : a3 5 = 0 ∨ (upd a1 1 1 0 = 1 ∧ a2 1 = 1)) (q1 : a3 5 = 2) (q2 : ¬ (upd a1 1 1 0 = 1 ∧ a2 1 = 1)), False := by
    intro p q1 q2
    rcases p with p | p
    · exact absurd (p.symm.trans q1) (by decide)
    · exact q2 p
  refine hj_writeC hn (hj_commit1 h1 (hj_clean A (fun z => ?_) (fun z1 z2 => ?_)))
  · refine hj_serial A (fun _ c l b6 b7 b8 b9 b10 b11 _ _ _ => ?_) (fun q1 q2 => (N z q1 q2).elim)
    refine hj_serialAt A (fun _ f u g1 g0 => ?_) (fun q1 q2 _ => (N z q1 q2).elim)
    obtain ⟨u1, u2, u3, u4, v1, v2, v3, v4, v5, v6, v7, v8, v9, v10, v11⟩ := u
    refine hj_end hp R1 R2 R3 W1 W2 W3 W4 (fun q1 q2 => ?_) (fun _ => ⟨rfl, rfl, fun q => g1 (hl.mp q), fun q => g0 (fun e => q (hl.mpr e))⟩)
    refine (N z (hr.mp q1) (fun g => ?_)).elim
    rcases q2 with q2 | q2
    · exact q2 (hl.mpr g.1)
    · exact (hy.mp q2) g.2
  · refine hj_serial A (fun q => (N q z1 z2).elim) (fun _ _ => ?_)
    refine hj_serialAt A (fun q => (N q z1 z2).elim) (fun _ _ u => ?_)
    obtain ⟨u1, u2, u3, u4, v1, v2, v3, v4, v5, v6, v7, v8, v9, v10, v11⟩ := u
    refine hj_end hp R1 R2 R3 W1 W2 W3 W4 (fun _ _ => ⟨rfl, rfl, rfl⟩) (fun q => ?_)
    rcases q with q | q
    · exact absurd (hr.mpr z1) q
    · by_cases e : a2 1 = 1
      · exact absurd ⟨hl.mp q.1, e⟩ z2
      · exact absurd (hy.mpr e) q.2
theorem hj_lawOf {post : Int32 → St0 → Prop} (hp : post 1 ()) (x v y how : Int32) : wpL_lawOf post 12 95 () x v y how := by
  refine ⟨by decide, by decide, 11, 80, by decide, by decide, ?_⟩
  refine ⟨by decide, by decide, by decide, by decide, by decide, by decide, by decide, by decide, by decide, by decide, by decide, by decide, by decide, by decide, by decide, by decide, by decide, by decide, by decide, by decide, by decide, by decide, ?_⟩
  refine br_t (by decide) (br_t (by decide) (br_t (by decide) (br_t (by decide) ?_)))
  refine hj_writeK 1 1 1 rfl (by decide) (by decide) ?_
  refine hj_read x v rfl ⟨rfl, rfl, rfl⟩ ⟨rfl, rfl, rfl, rfl, rfl⟩ rfl (fun r b3 R => ?_)
  refine hj_write2 y rfl rfl rfl rfl ⟨rfl, rfl, rfl⟩ (fun r2 b2 W => ?_)
  exact br_c (fun hl => hj_commit0 rfl (hj_61 hp R W (Or.inl ⟨hl, rfl⟩) rfl ⟨rfl, rfl, rfl⟩)) (fun hl => hj_abort0 rfl (hj_61 hp R W (Or.inr ⟨hl, rfl⟩) rfl ⟨rfl, rfl, rfl⟩))
theorem hj_cell {post : Int32 → Prop} {L : Nat} {xs : Nat → Int32} (hL : L ≤ 4) (p : Int32) (k : Nat) (hk : k < 4) (e : p = nI k) (H : ∀ r, post r) : wpL_cellAt post L xs () p := by
  subst e
  exact pk_le L k (fun _ => H 0) (fun z => ⟨pk_in k L z, H _⟩)
end
end
section
theorem i_vc (xs : Nat → Int32) (L : Nat) (hL : L ≤ 4) : wpL_law (fun r => r = 1) L xs :=
  hj_cell hL 0 0 (by decide) rfl (fun x => hj_cell hL 1 1 (by decide) rfl (fun v => hj_cell hL 2 2 (by decide) rfl (fun y => hj_cell hL 3 3 (by decide) rfl (fun how => ⟨12, 95, by decide, by decide, hj_lawOf rfl x v y how⟩))))
end
