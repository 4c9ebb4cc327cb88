section
/-- the masks that lie within the reads at work: none at work, or read 0 alone -/
theorem ph_m0 : ∀ i, i < 256 → ((nI i &&& ((0 : Int32) ^^^ (-1))) = 0 ↔ i = 0) := by decide +kernel
theorem ph_m1 : ∀ i, i < 256 → ((nI i &&& ((1 : Int32) ^^^ (-1))) = 0 ↔ i < 2) := by decide +kernel
theorem ph_mx : ∀ i, i < 256 → ((nI i &&& (((1 : Int32) ||| 1) ^^^ (-1))) = 0 ↔ i < 2) := by decide +kernel
/-- read 0 at site s lies at place s -/
theorem ph_at (s : Nat) : (0 : Int32) * 8 + nI s = nI s := by
  rw [show (0 : Int32) * 8 = nI 0 from by decide, nI_add, Nat.zero_add]
theorem ph_01 {p : Int32} (z : ¬ p < 0) (w : p < 1) : p = 0 := by
  obtain ⟨j, hj, rfl⟩ := nI_of z
  have h : j < 1 := (nI_ltI hj (by decide : 1 < 2 ^ 31)).mp w
  rw [show j = 0 by omega]
  rfl
theorem ph_big {x : Int32} (h : nI 8 ≤ x) : ¬ x < 0 ∧ ¬ x < 8 ∧ ¬ x ≤ 7 := by
  rw [Int32.le_iff_toInt_le, nI_toInt (by decide)] at h
  refine ⟨?_, ?_, ?_⟩
  · rw [Int32.lt_iff_toInt_lt, show (0 : Int32).toInt = 0 from by decide]
    omega
  · rw [Int32.lt_iff_toInt_lt, show (8 : Int32).toInt = 8 from by decide]
    omega
  · rw [Int32.le_iff_toInt_le, show (7 : Int32).toInt = 7 from by decide]
    omega
/-- a trust of a stretch that is taken -/
theorem ph_trust {x : Int32} (h : ¬ x < 1) (h9 : x ≤ 9) : ∃ t : Nat, 1 ≤ t ∧ t ≤ 9 ∧ x = nI t := by
  have h0 : ¬ x < 0 := by
    intro z
    apply h
    rw [Int32.lt_iff_toInt_lt, show (0 : Int32).toInt = 0 from by decide] at z
    rw [Int32.lt_iff_toInt_lt, show (1 : Int32).toInt = 1 from by decide]
    omega
  obtain ⟨t, ht, rfl⟩ := nI_of2 (n := 9) (by decide) h0 h9
  refine ⟨t, ?_, ht, rfl⟩
  rcases Nat.lt_or_ge t 1 with z | z
  · exact absurd (nI_lt z (by decide)) h
  · exact z
/-- a trust of a say that is taken -/
theorem ph_trust0 {x : Int32} (h : ¬ x < 0) (h9 : x ≤ 9) : ∃ t : Nat, t ≤ 9 ∧ x = nI t := nI_of2 (n := 9) (by decide) h h9
theorem ph_min {t : Int32} (h : 0 ≤ t) (z : t ≤ 0) : t = 0 := Int32.le_antisymm z h
/-- a store of a trust keeps the row nonnegative -/
theorem ph_nn {a : Nat → Int32} {s : Nat} {x : Int32} (h : ∀ j, j < 8 → 0 ≤ a j) (hx : 0 ≤ x) : ∀ j, j < 8 → 0 ≤ upd a s x j := by
  intro j hj
  by_cases e : j = s
  · rw [e, pk_us]
    exact hx
  · rw [pk_un e]
    exact h j hj
end
section
section
variable {f1 f2 f3 f4 f5 : Int32} {a1 a2 a3 a4 a5 : Nat → Int32}
/-! noRead -/
theorem ph_no0 {post : Int32 → Prop} {p : Int32} (h : post 1) : wpX_noRead post (0, f1, f2, f3, f4, f5, a1, a2, a3, a4, a5) p := by
  unfold wpX_noRead
  exact br_c (fun _ => h) (fun z => br_f z h)
theorem ph_no1 {post : Int32 → Prop} {p : Int32} (hp : ¬ p = 0) (h : post 1) : wpX_noRead post (1, f1, f2, f3, f4, f5, a1, a2, a3, a4, a5) p := by
  unfold wpX_noRead
  exact br_c (fun _ => h) (fun z => br_f (fun w => hp (ph_01 z w)) h)
theorem ph_yes {post : Int32 → Prop} (h : post 0) : wpX_noRead post (1, f1, f2, f3, f4, f5, a1, a2, a3, a4, a5) 0 := by
  unfold wpX_noRead
  exact br_f (by decide) (br_t (by decide) h)
/-! say -/
theorem ph_sayNo {post : Int32 → St2 → Prop} {r p0 p1 p2 p3 : Int32}
    (hn : ∀ Q : Int32 → Prop, Q 1 → wpX_noRead Q (r, f1, f2, f3, f4, f5, a1, a2, a3, a4, a5) p0)
    (h : post (-1) (r, f1, f2, f3, f4, f5, a1, a2, a3, a4, a5)) :
    wpX_say post (r, f1, f2, f3, f4, f5, a1, a2, a3, a4, a5) p0 p1 p2 p3 := by
  unfold wpX_say
  refine hn _ ?_
  exact br_f (by decide) h
theorem ph_sayOut {post : Int32 → St2 → Prop} {p1 p2 p3 : Int32} (ho : p1 < 0 ∨ nI 8 ≤ p1)
    (h : post (-2) (1, f1, f2, f3, f4, f5, a1, a2, a3, a4, a5)) :
    wpX_say post (1, f1, f2, f3, f4, f5, a1, a2, a3, a4, a5) 0 p1 p2 p3 := by
  unfold wpX_say
  refine ph_yes ?_
  refine br_t rfl ?_
  rcases ho with o | o
  · exact br_t o h
  · exact br_f (ph_big o).1 (br_f (ph_big o).2.1 h)
theorem ph_sayBad {post : Int32 → St2 → Prop} {s : Nat} {p2 p3 : Int32} (hs : s < 8) (hb : p3 < 0 ∨ ¬ p3 ≤ 9)
    (h : post (-3) (1, f1, f2, f3, f4, f5, a1, a2, a3, a4, a5)) :
    wpX_say post (1, f1, f2, f3, f4, f5, a1, a2, a3, a4, a5) 0 (nI s) p2 p3 := by
  unfold wpX_say
  refine ph_yes ?_
  refine br_t rfl ?_
  refine br_f (nI_pos (by omega)) (br_t (nI_lt (b := 8) hs (by decide)) ?_)
  rcases hb with b | b
  · exact br_t b h
  · exact br_c (fun _ => h) (fun _ => br_f b h)
theorem ph_say {post : Int32 → St2 → Prop} {s t : Nat} {p1 p2 : Int32} (hs : s < 8) (ht : t ≤ 9) (e1 : p1 = nI s)
    (h : post (a1 s) (1, f1, f2, f3, f4, f5, upd a1 s (nI t), upd a2 s (p2 &&& 1), a3, a4, a5)) :
    wpX_say post (1, f1, f2, f3, f4, f5, a1, a2, a3, a4, a5) 0 p1 p2 (nI t) := by
  subst e1
  unfold wpX_say
  refine ph_yes ?_
  refine br_t rfl ?_
  refine br_f (nI_pos (by omega)) (br_t (nI_lt (b := 8) hs (by decide)) (br_f (nI_pos (by omega)) (br_t (nI_le (b := 9) ht (by decide)) ?_)))
  refine nm_r (ph_at s) ?_
  rw [nI_clamp (show s < 2 ^ 31 by omega)]
  exact ⟨pk_in s 64 (by omega), nm_e ⟨pk_in s 64 (by omega), nm_e ⟨pk_in s 64 (by omega), nm_e h⟩⟩⟩
/-! read, over no reads yet -/
theorem ph_read {post : Int32 → St2 → Prop} (H : ∀ b : Nat → Int32, (∀ j, j < 8 → b j = 0) → post 0 (1, f1, f2, f3, f4, f5, b, a2, a3, a4, a5)) :
    wpX_read post (0, f1, f2, f3, f4, f5, a1, a2, a3, a4, a5) := by
  unfold wpX_read
  refine br_t (by decide) ?_
  refine pk_loop (fun n i s => wX_read_14 post 0 f1 f2 f3 f4 f5 n (nI i) s a2 a3 a4 a5) (fun i s => ∀ j, j < i → s j = 0) 8 0 a1 (by omega) (fun j hj => absurd hj (by omega)) ?_ ?_
  · intro n s h
    refine pk_le 8 8 (fun _ => ?_) (fun z => absurd z (by omega))
    refine nm_r (e' := 1) (by decide) ?_
    rw [show (1 : Int32) - 1 = 0 from by decide]
    exact H s h
  · intro n i s hi h hw
    refine pk_le 8 i (fun z => absurd z (by omega)) (fun _ => ?_)
    rw [ph_at i, nI_clamp (show i < 2 ^ 31 by omega)]
    refine ⟨pk_in i 64 (by omega), nm_e (nm_r (nI_1 i) (hw _ ?_))⟩
    intro j hj
    by_cases e : j = i
    · rw [e, pk_us]
    · rw [pk_un e]
      exact h j (by omega)
/-! stretch, over no reads yet -/
theorem ph_strS {post : Int32 → St2 → Prop} {r p0 p1 p2 : Int32} {a k : Nat} (ha : a < 8) (hk : k < 16) (e4 : p0 &&& 7 = nI a) (e5 : (p0 >>> ((3 : Int32) &&& 31)) &&& 15 = nI k)
    (ho : k < 1 ∨ 8 < k ∨ 8 < a + k) (h : post (-2) (r, f1, f2, f3, f4, f5, a1, a2, a3, a4, a5)) :
    wpX_stretch post (r, f1, f2, f3, f4, f5, a1, a2, a3, a4, a5) p0 p1 p2 := by
  unfold wpX_stretch
  refine nm_r e4 (nm_r e5 ?_)
  refine pk_lt k 1 (fun _ => h) (fun z1 => ?_)
  refine pk_lt 8 k (fun _ => h) (fun z2 => ?_)
  exact pk_le (a + k) 8 (fun z3 => absurd ho (by omega)) (fun _ => h) (nI_add a k)
theorem ph_strT {post : Int32 → St2 → Prop} {r p0 p1 p2 : Int32} {a k : Nat} (ha : a < 8) (hk : k < 16) (e4 : p0 &&& 7 = nI a) (e5 : (p0 >>> ((3 : Int32) &&& 31)) &&& 15 = nI k)
    (h1 : 1 ≤ k) (h2 : k ≤ 8) (h3 : a + k ≤ 8) (hb : p2 < 1 ∨ ¬ p2 ≤ 9) (h : post (-3) (r, f1, f2, f3, f4, f5, a1, a2, a3, a4, a5)) :
    wpX_stretch post (r, f1, f2, f3, f4, f5, a1, a2, a3, a4, a5) p0 p1 p2 := by
  unfold wpX_stretch
  refine nm_r e4 (nm_r e5 ?_)
  refine pk_lt k 1 (fun z => absurd z (by omega)) (fun _ => ?_)
  refine pk_lt 8 k (fun z => absurd z (by omega)) (fun _ => ?_)
  refine pk_le (a + k) 8 (fun _ => ?_) (fun z => absurd z (by omega)) (nI_add a k)
  rcases hb with b | b
  · exact br_t b h
  · exact br_c (fun _ => h) (fun _ => br_f b h)
theorem ph_str71 {post : Int32 → St2 → Prop} {p1 : Int32} {a k t : Nat} (h3 : a + k ≤ 8) (ht : t ≤ 9) (h0 : ∀ j, j < 8 → a1 j = 0)
    (H : ∀ b1 b2 : Nat → Int32, (∀ j, j < 8 → b1 j = if a ≤ j ∧ j < a + k then nI t else 0) → post 0 (1, f1, f2, f3, f4, f5, b1, b2, a3, a4, a5)) :
    ∃ n, wX_stretch_71 post p1 (nI t) (nI a) (nI k) 0 n 0 1 f1 f2 f3 f4 f5 a1 a2 a3 a4 a5 := by
  refine pk_loop (σ := (Nat → Int32) × (Nat → Int32)) (fun n i s => wX_stretch_71 post p1 (nI t) (nI a) (nI k) 0 n (nI i) 1 f1 f2 f3 f4 f5 s.1 s.2 a3 a4 a5)
    (fun i s => ∀ j, j < 8 → s.1 j = if a ≤ j ∧ j < a + i then nI t else 0) k 0 (a1, a2) (by omega) ?_ ?_ ?_
  · intro j hj
    rw [if_neg (by omega)]
    exact h0 j hj
  · intro n s h
    exact pk_le k k (fun _ => H s.1 s.2 h) (fun z => absurd z (by omega))
  · intro n i s hi h hw
    refine pk_le k i (fun z => absurd z (by omega)) (fun _ => ?_)
    refine ph_say (s := a + i) (by omega) ht (nI_add a i) ?_
    refine nm_r (nI_1 i) (hw (_, _) ?_)
    intro j hj
    show upd s.1 (a + i) (nI t) j = _
    by_cases e : j = a + i
    · rw [e, pk_us, if_pos (by omega)]
    · rw [pk_un e, h j hj]
      by_cases g : a ≤ j ∧ j < a + i
      · rw [if_pos g, if_pos (by omega)]
      · rw [if_neg g, if_neg (by omega)]
theorem ph_str {post : Int32 → St2 → Prop} {p0 p1 : Int32} {a k t : Nat} (ha : a < 8) (hk : k < 16) (e4 : p0 &&& 7 = nI a) (e5 : (p0 >>> ((3 : Int32) &&& 31)) &&& 15 = nI k)
    (h1 : 1 ≤ k) (h2 : k ≤ 8) (h3 : a + k ≤ 8) (t1 : 1 ≤ t) (t9 : t ≤ 9)
    (H : ∀ b1 b2 : Nat → Int32, (∀ j, j < 8 → b1 j = if a ≤ j ∧ j < a + k then nI t else 0) → post 0 (1, f1, f2, f3, f4, f5, b1, b2, a3, a4, a5)) :
    wpX_stretch post (0, f1, f2, f3, f4, f5, a1, a2, a3, a4, a5) p0 p1 (nI t) := by
  unfold wpX_stretch
  refine nm_r e4 (nm_r e5 ?_)
  refine pk_lt k 1 (fun z => absurd z (by omega)) (fun _ => ?_)
  refine pk_lt 8 k (fun z => absurd z (by omega)) (fun _ => ?_)
  refine pk_le (a + k) 8 (fun _ => ?_) (fun z => absurd z (by omega)) (nI_add a k)
  refine pk_lt t 1 (fun z => absurd z (by omega)) (fun _ => ?_)
  refine pk_le t 9 (fun _ => ?_) (fun z => absurd z (by omega))
  refine ph_read (fun b hb => ?_)
  exact br_t (by decide) (ph_str71 h3 t9 hb H)
/-! cover -/
theorem ph_covOut {post : Int32 → Prop} {r p : Int32} (ho : p < 0 ∨ nI 8 ≤ p) (h : post (-2)) : wpX_cover post (r, f1, f2, f3, f4, f5, a1, a2, a3, a4, a5) p := by
  unfold wpX_cover
  rcases ho with o | o
  · exact br_t o h
  · exact br_f (ph_big o).1 (br_f (ph_big o).2.1 h)
theorem ph_cov0 {post : Int32 → Prop} {s : Nat} (hs : s < 8) (h : post 0) : wpX_cover post (0, f1, f2, f3, f4, f5, a1, a2, a3, a4, a5) (nI s) := by
  unfold wpX_cover
  refine br_f (nI_pos (by omega)) (br_t (nI_lt (b := 8) hs (by decide)) ⟨0 + 1, ?_⟩)
  exact br_t (by decide) h
theorem ph_cov1 {post : Int32 → Prop} {s : Nat} (hs : s < 8) (h0 : a1 s ≤ 0 → post 0) (h1 : ¬ a1 s ≤ 0 → post 1) : wpX_cover post (1, f1, f2, f3, f4, f5, a1, a2, a3, a4, a5) (nI s) := by
  unfold wpX_cover
  refine br_f (nI_pos (by omega)) (br_t (nI_lt (b := 8) hs (by decide)) ⟨0 + 1 + 1, ?_⟩)
  refine br_f (by decide) ?_
  rw [ph_at s, nI_clamp (show s < 2 ^ 31 by omega)]
  refine ⟨pk_in s 64 (by omega), br_c (fun z => ?_) (fun z => ?_)⟩
  · exact nm_r (e' := 1) (by decide) (br_t (by decide) (h0 z))
  · exact nm_r (e' := 1) (by decide) (nm_r (e' := 1) (by decide) (br_t (by decide) (h1 z)))
end
end
section
section
variable {f1 f2 f3 f4 f5 : Int32} {a1 a2 a3 a4 a5 : Nat → Int32}
/-! a read's first and last site: any answer will do -/
theorem ph_first {post : Int32 → Prop} {r : Int32} (H : ∀ x, post x) : wpX_firstSite post (r, f1, f2, f3, f4, f5, a1, a2, a3, a4, a5) 0 := by
  unfold wpX_firstSite
  refine pk_loop (σ := Unit) (fun n i _ => wX_firstSite_2 post 0 r f1 f2 f3 f4 f5 a1 a2 a3 a4 a5 n (nI i)) (fun _ _ => True) 8 0 () (by omega) trivial ?_ ?_
  · intro n s _
    exact pk_le 8 8 (fun _ => H _) (fun z => absurd z (by omega))
  · intro n i s hi _ hw
    refine pk_le 8 i (fun z => absurd z (by omega)) (fun _ => ?_)
    rw [ph_at i]
    exact ⟨pk_in i 64 (by omega), br_c (fun _ => nm_r (nI_1 i) (hw () trivial)) (fun _ => H _)⟩
theorem ph_last {post : Int32 → Prop} {r : Int32} (H : ∀ x, post x) : wpX_lastSite post (r, f1, f2, f3, f4, f5, a1, a2, a3, a4, a5) 0 := by
  unfold wpX_lastSite
  refine ⟨8 + 1, ?_⟩
  refine pk_loopD (σ := Unit) (fun n i _ => wX_lastSite_3 post 0 r f1 f2 f3 f4 f5 a1 a2 a3 a4 a5 n (nI i + (-1))) (fun i _ => i ≤ 8) ?_ ?_ 8 () (by omega)
  · intro n s _
    exact br_t (by decide) (H _)
  · intro n i s hi hw
    show wX_lastSite_3 post 0 r f1 f2 f3 f4 f5 a1 a2 a3 a4 a5 (n + 1) (nI (i + 1) + (-1))
    rw [pk_m1 i]
    refine br_f (nI_pos (by omega)) ?_
    rw [ph_at i]
    exact ⟨pk_in i 64 (by omega), br_c (fun _ => nm_e (hw () (by omega))) (fun _ => H _)⟩
/-! what a site costs with read 0 alone at work, on strand A: nothing -/
theorem ph_weigh {post : St2 → Prop} {s : Nat} (hs : s < 8)
    (h0 : post (1, f1, a1 s, 0, 0, 0, a1, a2, a3, a4, a5)) (h1 : post (1, f1, 0, a1 s, 0, 0, a1, a2, a3, a4, a5)) :
    wpX_weigh post (1, f1, f2, f3, f4, f5, a1, a2, a3, a4, a5) (nI s) 0 1 := by
  unfold wpX_weigh
  refine ⟨0 + 1 + 1, ?_⟩
  refine br_f (by decide) (br_t (by decide) ?_)
  rw [ph_at s, show ((0 : Int32) >>> ((0 : Int32) &&& 31)) &&& 1 = 0 from by decide]
  unfold wpX_weighRead
  rw [nI_clamp (show s < 2 ^ 31 by omega)]
  refine ⟨pk_in s 64 (by omega), nm_e (br_t rfl ⟨pk_in s 64 (by omega), br_c (fun _ => ?_) (fun _ => ?_)⟩)⟩
  · refine nm_r (Int32.zero_add _) ?_
    refine nm_r (e' := 1) (by decide) ?_
    exact br_t (by decide) h0
  · refine br_t rfl ?_
    refine nm_r (Int32.zero_add _) ?_
    refine nm_r (e' := 1) (by decide) ?_
    exact br_t (by decide) h1
theorem ph_small1 {post : Int32 → Prop} {t : Int32} (ht : 0 ≤ t) (h : post 0) : wpX_smaller post () t 0 := by
  unfold wpX_smaller
  exact br_t ht h
theorem ph_small2 {post : Int32 → Prop} {t : Int32} (ht : 0 ≤ t) (h : post 0) : wpX_smaller post () 0 t := by
  unfold wpX_smaller
  exact br_c (fun z => by rw [ph_min ht z]; exact h) (fun _ => h)
theorem ph_site {post : Int32 → St2 → Prop} {s : Nat} (hs : s < 8) (ht : 0 ≤ a1 s)
    (H : ∀ g2 g3 g4 g5 : Int32, post 0 (1, f1, g2, g3, g4, g5, a1, a2, a3, a4, a5)) :
    wpX_siteCost post (1, f1, f2, f3, f4, f5, a1, a2, a3, a4, a5) (nI s) 0 1 0 := by
  unfold wpX_siteCost
  refine ph_weigh hs ?_ ?_
  · refine br_t rfl (ph_small1 ht (ph_small1 (by decide) ?_))
    rw [show (0 : Int32) + 0 = 0 from by decide]
    exact H _ _ _ _
  · refine br_t rfl (ph_small2 ht (ph_small1 (by decide) ?_))
    rw [show (0 : Int32) + 0 = 0 from by decide]
    exact H _ _ _ _
/-! a site is added: the table stays -/
theorem ph_add {post : St2 → Prop} {s : Nat} (hs : s < 8) (ht : 0 ≤ a1 s) (c0 : a3 0 = 0) (c1 : a3 1 = 1000000)
    (H : ∀ (g2 g3 g4 g5 : Int32) (b3 : Nat → Int32), b3 0 = 0 → b3 1 = 1000000 → post (1, 1, g2, g3, g4, g5, a1, a2, b3, a4, a5)) :
    wpX_addSite post (1, 1, f2, f3, f4, f5, a1, a2, a3, a4, a5) (nI s) 0 := by
  unfold wpX_addSite
  refine pk_loop (σ := Int32 × Int32 × Int32 × Int32 × (Nat → Int32)) (fun n i u => wX_addSite_2 post (nI s) 0 n (nI i) 1 1 u.1 u.2.1 u.2.2.1 u.2.2.2.1 a1 a2 u.2.2.2.2 a4 a5)
    (fun _ u => u.2.2.2.2 0 = 0 ∧ u.2.2.2.2 1 = 1000000) 256 0 (f2, f3, f4, f5, a3) (by omega) ⟨c0, c1⟩ ?_ ?_
  · intro n u h
    exact pk_le 256 256 (fun _ => H _ _ _ _ _ h.1 h.2) (fun z => absurd z (by omega))
  · intro n i u hi h hw
    refine pk_le 256 i (fun z => absurd z (by omega)) (fun _ => ?_)
    refine ek_if (ph_m1 i hi) (fun z => ?_) (fun _ => nm_r (nI_1 i) (hw u h))
    rw [nI_clamp (show i < 2 ^ 31 by omega)]
    refine ⟨pk_in i 256 hi, ?_⟩
    rcases (show i = 0 ∨ i = 1 by omega) with e | e
    · subst e
      rw [h.1]
      refine br_f (by decide) ⟨pk_in 0 256 (by omega), ?_⟩
      refine ph_site hs ht (fun g2 g3 g4 g5 => ?_)
      refine ⟨pk_in 0 256 (by omega), nm_e (nm_r (nI_1 0) (hw (_, _, _, _, _) ⟨?_, ?_⟩))⟩
      · show upd u.2.2.2.2 0 ((0 : Int32) + 0) 0 = 0
        rw [pk_us]
        decide
      · show upd u.2.2.2.2 0 ((0 : Int32) + 0) 1 = 1000000
        rw [pk_un (by omega)]
        exact h.2
    · subst e
      rw [h.2]
      exact br_t (by decide) (nm_r (nI_1 1) (hw u h))
/-! read 0 begins -/
theorem ph_begin {post : St2 → Prop} {r : Int32} (c0 : a3 0 = 0)
    (H : ∀ b3 b4 b5 : Nat → Int32, b3 0 = 0 → b3 1 = 1000000 → post (r, 1, f2, f3, f4, f5, a1, a2, b3, b4, b5)) :
    wpX_beginRead post (r, 0, f2, f3, f4, f5, a1, a2, a3, a4, a5) 0 := by
  unfold wpX_beginRead
  refine nm_r (e' := 1) (by decide) ?_
  refine pk_loop (σ := (Nat → Int32) × (Nat → Int32) × (Nat → Int32)) (fun n i u => wX_beginRead_6 post 0 1 r 0 f2 f3 f4 f5 n (nI i) a1 a2 u.1 u.2.1 u.2.2)
    (fun i u => u.1 0 = 0 ∧ (0 < i → u.1 1 = 1000000)) 256 0 (a3, a4, a5) (by omega) ⟨c0, fun z => absurd z (by omega)⟩ ?_ ?_
  · intro n u h
    refine pk_le 256 256 (fun _ => ?_) (fun z => absurd z (by omega))
    exact nm_r (e' := 1) (by decide) (H _ _ _ h.1 (h.2 (by omega)))
  · intro n i u hi h hw
    refine pk_le 256 i (fun z => absurd z (by omega)) (fun _ => ?_)
    refine ek_if (ph_m0 i hi) (fun z => ?_) (fun z => nm_r (nI_1 i) (hw u ⟨h.1, fun _ => h.2 (by omega)⟩))
    subst z
    refine br_t rfl ?_
    unfold wX_beginRead_46
    rw [show nI 0 ||| 1 = nI 1 from by decide, nI_clamp (show 1 < 2 ^ 31 by omega), nI_clamp (show 0 < 2 ^ 31 by omega)]
    refine ⟨pk_in 1 256 (by omega), nm_e ⟨pk_in 0 256 (by omega), pk_in 1 256 (by omega), nm_e ⟨pk_in 0 256 (by omega), pk_in 1 256 (by omega), nm_e (nm_r (nI_1 0) (hw (_, _, _) ⟨?_, fun _ => ?_⟩))⟩⟩⟩
    · show upd u.1 1 1000000 0 = 0
      rw [pk_un (by omega)]
      exact h.1
    · show upd u.1 1 1000000 1 = 1000000
      rw [pk_us]
/-! solve with read 0 kept -/
theorem ph_137 {post : St2 → Prop} {J : Int32 → Int32 → Int32 → Int32 → Int32 → Int32 → Int32 → (Nat → Int32) → (Nat → Int32) → (Nat → Int32) → (Nat → Int32) → (Nat → Int32) → Prop} {x3 : Int32}
    (h : J (x3 + 1) 1 1 f2 f3 f4 f5 a1 a2 a3 a4 a5) : ∃ n, wX_solve_137 post J 1 0 x3 n 0 1 1 f2 f3 f4 f5 a1 a2 a3 a4 a5 := by
  have E : wX_solve_137 post J 1 0 x3 (0 + 1) 1 1 1 f2 f3 f4 f5 a1 a2 a3 a4 a5 := br_t (by decide) (nm_e h)
  refine ⟨0 + 1 + 1, ?_⟩
  refine br_f (by decide) ?_
  refine ph_last (fun x => ?_)
  exact br_c (fun _ => br_f (by decide) (nm_r (e' := 1) (by decide) E)) (fun _ => nm_r (e' := 1) (by decide) E)
theorem ph_81 {post : St2 → Prop} {J : Int32 → Int32 → Int32 → Int32 → Int32 → Int32 → Int32 → (Nat → Int32) → (Nat → Int32) → (Nat → Int32) → (Nat → Int32) → (Nat → Int32) → Prop} {s : Nat}
    (hs : s < 8) (ht : 0 ≤ a1 s) (c0 : a3 0 = 0) (c1 : a3 1 = 1000000)
    (H : ∀ (g2 g3 g4 g5 : Int32) (b3 : Nat → Int32), b3 0 = 0 → b3 1 = 1000000 → J (nI s + 1) 1 1 g2 g3 g4 g5 a1 a2 b3 a4 a5) :
    ∃ n, wX_solve_81 post J 1 0 (nI s) n 0 1 1 f2 f3 f4 f5 a1 a2 a3 a4 a5 := by
  have E : wX_solve_81 post J 1 0 (nI s) (0 + 1) 1 1 1 f2 f3 f4 f5 a1 a2 a3 a4 a5 := by
    refine br_t (by decide) ?_
    exact ph_add hs ht c0 c1 (fun g2 g3 g4 g5 b3 d0 d1 => ph_137 (H g2 g3 g4 g5 b3 d0 d1))
  refine ⟨0 + 1 + 1, ?_⟩
  refine br_f (by decide) ?_
  refine ph_first (fun x => ?_)
  exact br_c (fun _ => br_f (by decide) (nm_r (e' := 1) (by decide) E)) (fun _ => nm_r (e' := 1) (by decide) E)
theorem ph_189 {post : St2 → Prop} (h : post (1, 1, f2, f3, f4, f5, a1, a2, a3, a4, a5)) :
    ∃ n, wX_solve_189 post 1 n 0 1 1 f2 f3 f4 f5 a1 a2 a3 a4 a5 := by
  have E : wX_solve_189 post 1 (0 + 1) 1 1 1 f2 f3 f4 f5 a1 a2 a3 a4 a5 := br_t (by decide) h
  refine ⟨0 + 1 + 1, ?_⟩
  refine br_f (by decide) ?_
  exact br_f (by decide) (nm_r (e' := 1) (by decide) E)
theorem ph_72 {post : St2 → Prop} (ht : ∀ j, j < 8 → 0 ≤ a1 j) (c0 : a3 0 = 0) (c1 : a3 1 = 1000000)
    (H : ∀ (g2 g3 g4 g5 : Int32) (b3 : Nat → Int32), b3 0 = 0 → b3 1 = 1000000 → post (1, 1, g2, g3, g4, g5, a1, a2, b3, a4, a5)) :
    ∃ n, wX_solve_72 post 1 0 n 0 1 1 f2 f3 f4 f5 a1 a2 a3 a4 a5 := by
  refine pk_loop (σ := Int32 × Int32 × Int32 × Int32 × (Nat → Int32)) (fun n i u => wX_solve_72 post 1 0 n (nI i) 1 1 u.1 u.2.1 u.2.2.1 u.2.2.2.1 a1 a2 u.2.2.2.2 a4 a5)
    (fun _ u => u.2.2.2.2 0 = 0 ∧ u.2.2.2.2 1 = 1000000) 8 0 (f2, f3, f4, f5, a3) (by omega) ⟨c0, c1⟩ ?_ ?_
  · intro n u h
    exact pk_le 8 8 (fun _ => ph_189 (H _ _ _ _ _ h.1 h.2)) (fun z => absurd z (by omega))
  · intro n i u hi h hw
    refine pk_le 8 i (fun z => absurd z (by omega)) (fun _ => ?_)
    refine ph_81 hi (ht i hi) h.1 h.2 (fun g2 g3 g4 g5 b3 d0 d1 => ?_)
    rw [nI_1 i]
    exact hw (g2, g3, g4, g5, b3) ⟨d0, d1⟩
theorem ph_solve {post : St2 → Prop} (ht : ∀ j, j < 8 → 0 ≤ a1 j)
    (H : ∀ (g2 g3 g4 g5 : Int32) (b3 b4 b5 : Nat → Int32), b3 0 = 0 → b3 1 = 1000000 → post (1, 1, g2, g3, g4, g5, a1, a2, b3, b4, b5)) :
    wpX_solve post (1, f1, f2, f3, f4, f5, a1, a2, a3, a4, a5) 1 0 := by
  unfold wpX_solve
  refine nm_e (nm_e (nm_e ⟨0 + 1 + 1, ?_⟩))
  refine br_f (by decide) ?_
  refine ph_first (fun x => br_t (by decide) ?_)
  unfold wX_solve_59
  refine ph_begin pk_us (fun b3 b4 b5 d0 d1 => ?_)
  refine nm_r (e' := 1) (by decide) ?_
  refine br_t (by decide) ?_
  exact ph_72 ht d0 d1 (fun g2 g3 g4 g5 b => H g2 g3 g4 g5 b b4 b5)
/-! leastWith -/
theorem ph_lw54 {post : Int32 → St2 → Prop} (c0 : a3 0 = 0) (c1 : a3 1 = 1000000) (h : post 0 (1, f1, f2, f3, f4, f5, a1, a2, a3, a4, a5)) :
    ∃ n, wX_leastWith_54 post 0 1 1 1 f1 f2 f3 f4 f5 a1 a2 a3 a4 a5 n 1000000 0 := by
  refine pk_loop (σ := Int32) (fun n i u => wX_leastWith_54 post 0 1 1 1 f1 f2 f3 f4 f5 a1 a2 a3 a4 a5 n u (nI i))
    (fun i u => (i = 0 → u = 1000000) ∧ (0 < i → u = 0)) 256 0 (1000000 : Int32) (by omega) ⟨fun _ => rfl, fun z => absurd z (by omega)⟩ ?_ ?_
  · intro n u hu
    refine pk_le 256 256 (fun _ => ?_) (fun z => absurd z (by omega))
    rw [hu.2 (by omega)]
    exact h
  · intro n i u hi hu hw
    refine pk_le 256 i (fun z => absurd z (by omega)) (fun _ => ?_)
    have E : wX_leastWith_96 post (wX_leastWith_54 post 0 1 1 1 f1 f2 f3 f4 f5 a1 a2 a3 a4 a5 n) 0 1 1 u (nI i) 0 1 f1 f2 f3 f4 f5 a1 a2 a3 a4 a5 := by
      unfold wX_leastWith_96
      refine ek_if (ph_mx i hi) (fun z => ?_) (fun z => nm_r (nI_1 i) (hw u ⟨fun e => absurd e (by omega), fun _ => hu.2 (by omega)⟩))
      rw [nI_clamp (show i < 2 ^ 31 by omega)]
      refine br_t rfl ⟨pk_in i 256 hi, ?_⟩
      rcases (show i = 0 ∨ i = 1 by omega) with e | e
      · subst e
        rw [hu.1 rfl, c0]
        exact br_f (by decide) ⟨pk_in 0 256 (by omega), nm_e (nm_r (nI_1 0) (hw 0 ⟨fun e => absurd e (by omega), fun _ => rfl⟩))⟩
      · subst e
        rw [hu.2 (by omega), c1]
        exact br_t (by decide) (nm_r (nI_1 1) (hw 0 ⟨fun e => absurd e (by omega), fun _ => rfl⟩))
    refine br_c (fun z => ?_) (fun z => ?_)
    · unfold wX_leastWith_75
      refine br_t z ?_
      unfold wX_leastWith_88
      exact br_t rfl E
    · unfold wX_leastWith_75
      refine br_f z ?_
      unfold wX_leastWith_88
      exact br_t rfl E
theorem ph_lw {post : Int32 → St2 → Prop} (ht : ∀ j, j < 8 → 0 ≤ a1 j)
    (H : ∀ (g1 g2 g3 g4 g5 : Int32) (b3 b4 b5 : Nat → Int32), post 0 (1, g1, g2, g3, g4, g5, a1, a2, b3, b4, b5)) :
    wpX_leastWith post (1, f1, f2, f3, f4, f5, a1, a2, a3, a4, a5) 0 0 0 := by
  unfold wpX_leastWith
  refine ph_yes ?_
  refine br_t rfl ?_
  refine ph_yes ?_
  refine br_t rfl (br_t rfl (br_t rfl ?_))
  unfold wX_leastWith_27
  refine nm_r (e' := 1) (by decide) (nm_r (e' := 1) (by decide) ?_)
  rw [show (1 : Int32) ||| 1 = 1 from by decide]
  refine ph_solve ht (fun g2 g3 g4 g5 b3 b4 b5 d0 d1 => ?_)
  exact ph_lw54 d0 d1 (H _ _ _ _ _ _ _ _)
theorem ph_lwNo {post : Int32 → St2 → Prop} {r p0 p1 p2 : Int32}
    (hn : ∀ Q : Int32 → Prop, Q 1 → wpX_noRead Q (r, f1, f2, f3, f4, f5, a1, a2, a3, a4, a5) p0)
    (h : post (-1) (r, f1, f2, f3, f4, f5, a1, a2, a3, a4, a5)) :
    wpX_leastWith post (r, f1, f2, f3, f4, f5, a1, a2, a3, a4, a5) p0 p1 p2 := by
  unfold wpX_leastWith
  refine hn _ ?_
  exact br_f (by decide) h
theorem ph_lwApart {post : Int32 → St2 → Prop} (h : post (-1) (1, f1, f2, f3, f4, f5, a1, a2, a3, a4, a5)) :
    wpX_leastWith post (1, f1, f2, f3, f4, f5, a1, a2, a3, a4, a5) 0 0 1 := by
  unfold wpX_leastWith
  refine ph_yes ?_
  refine br_t rfl ?_
  refine ph_yes ?_
  exact br_t rfl (br_t rfl (br_f (by decide) h))
/-! drop -/
theorem ph_drop0 {post : Int32 → St2 → Prop} (h : post (-1) (0, f1, f2, f3, f4, f5, a1, a2, a3, a4, a5)) : wpX_drop post (0, f1, f2, f3, f4, f5, a1, a2, a3, a4, a5) := by
  unfold wpX_drop
  exact br_t rfl h
theorem ph_drop1 {post : Int32 → St2 → Prop} (h : post 0 (0, f1, f2, f3, f4, f5, a1, a2, a3, a4, a5)) : wpX_drop post (1, f1, f2, f3, f4, f5, a1, a2, a3, a4, a5) := by
  unfold wpX_drop
  exact br_f (by decide) (nm_r (e' := 0) (by decide) h)
end
end
section
/-- what the law knows of the site (x13: out, x14: says) against the row of read 0 -/
def ph_K (x1 x3 x13 x14 : Int32) (a1 : Nat → Int32) : Prop :=
  (x13 = 1 ∧ (x1 < 0 ∨ nI 8 ≤ x1)) ∨ (x13 = 0 ∧ ∃ s : Nat, s < 8 ∧ x1 = nI s ∧ ((x14 = 0 ∧ a1 s = 0) ∨ (x14 = 1 ∧ a1 s = x3)))
section
variable {f1 f2 f3 f4 f5 : Int32} {a1 a2 a3 a4 a5 : Nat → Int32} {post : Int32 → St0 → Prop} {mc ms kc ks : Nat}
theorem ph_338 {z : Int32} (h : post 1 ()) : wL_lawOf_338 post mc ms z z kc ks := by
  unfold wL_lawOf_338
  exact br_t rfl h
/-! N: no read was made (x12 = 0, reads = 0); Y: one was (x12 = 1, reads = 1); Z: one was, but the law asks another -/
theorem ph_306N {z : Int32} (h : post 1 ()) : wL_lawOf_306 post mc ms 0 z z kc ks 0 f1 f2 f3 f4 f5 a1 a2 a3 a4 a5 := by
  unfold wL_lawOf_306
  refine br_t rfl (ph_lwNo (fun Q q => ph_no0 q) ?_)
  refine br_t rfl (ph_drop0 ?_)
  exact br_t rfl (ph_338 h)
theorem ph_306Y {z : Int32} (h : post 1 ()) : wL_lawOf_306 post mc ms 1 z z kc ks 1 f1 f2 f3 f4 f5 a1 a2 a3 a4 a5 := by
  unfold wL_lawOf_306
  refine br_t rfl (ph_lwApart ?_)
  refine br_t rfl (ph_drop1 ?_)
  exact br_f (by decide) (ph_338 h)
theorem ph_283N {x0 z : Int32} (h : post 1 ()) : wL_lawOf_283 post mc ms x0 0 0 z z kc ks 0 f1 f2 f3 f4 f5 a1 a2 a3 a4 a5 := by
  unfold wL_lawOf_283
  refine br_t rfl (ph_lwNo (fun Q q => ph_no0 q) ?_)
  exact br_t rfl (ph_306N h)
theorem ph_283Z {x0 z : Int32} (hx : ¬ x0 = 0) (h : post 1 ()) : wL_lawOf_283 post mc ms x0 1 0 z z kc ks 1 f1 f2 f3 f4 f5 a1 a2 a3 a4 a5 := by
  unfold wL_lawOf_283
  refine br_t rfl (ph_lwNo (fun Q q => ph_no1 hx q) ?_)
  exact br_t rfl (ph_306Y h)
theorem ph_283Y {z : Int32} (ht : ∀ j, j < 8 → 0 ≤ a1 j) (h : post 1 ()) : wL_lawOf_283 post mc ms 0 1 1 z z kc ks 1 f1 f2 f3 f4 f5 a1 a2 a3 a4 a5 := by
  unfold wL_lawOf_283
  refine br_t rfl (ph_lw ht (fun g1 g2 g3 g4 g5 b3 b4 b5 => ?_))
  exact br_f (by decide) (ph_306Y h)
theorem ph_232N {x0 x1 x2 x3 x5 x13 x14 z0 : Int32} (h : post 1 ()) : wL_lawOf_232 post mc ms x0 x1 x2 x3 x5 0 x13 x14 0 z0 kc ks 0 f1 f2 f3 f4 f5 a1 a2 a3 a4 a5 := by
  unfold wL_lawOf_232
  refine ph_sayNo (fun Q q => ph_no0 q) ?_
  exact br_t rfl (ph_283N h)
theorem ph_232Z {x0 x1 x2 x3 x5 x13 x14 z0 : Int32} (hx : ¬ x0 = 0) (h : post 1 ()) : wL_lawOf_232 post mc ms x0 x1 x2 x3 x5 1 x13 x14 0 z0 kc ks 1 f1 f2 f3 f4 f5 a1 a2 a3 a4 a5 := by
  unfold wL_lawOf_232
  refine ph_sayNo (fun Q q => ph_no1 hx q) ?_
  exact br_t rfl (ph_283Z hx h)
theorem ph_232B {x1 x2 x3 x5 x13 x14 : Int32} (hk : ph_K x1 x3 x13 x14 a1) (ht : ∀ j, j < 8 → 0 ≤ a1 j) (hb : x5 < 0 ∨ ¬ x5 ≤ 9) (h : post 1 ()) :
    wL_lawOf_232 post mc ms 0 x1 x2 x3 x5 1 x13 x14 1 1 kc ks 1 f1 f2 f3 f4 f5 a1 a2 a3 a4 a5 := by
  unfold wL_lawOf_232
  rcases hk with ⟨e, ho⟩ | ⟨e, s, hs, e1, _⟩
  · subst e
    refine ph_sayOut ho ?_
    exact br_f (by decide) (br_f (by decide) (ph_283Y ht h))
  · subst e e1
    refine ph_sayBad hs hb ?_
    exact br_f (by decide) (br_t rfl (br_f (by decide) (ph_283Y ht h)))
theorem ph_232Y {x1 x2 x3 x13 x14 : Int32} {o : Nat} (hk : ph_K x1 x3 x13 x14 a1) (ht : ∀ j, j < 8 → 0 ≤ a1 j) (hb : o ≤ 9) (h : post 1 ()) :
    wL_lawOf_232 post mc ms 0 x1 x2 x3 (nI o) 1 x13 x14 1 0 kc ks 1 f1 f2 f3 f4 f5 a1 a2 a3 a4 a5 := by
  unfold wL_lawOf_232
  rcases hk with ⟨e, ho⟩ | ⟨e, s, hs, e1, g⟩
  · subst e
    refine ph_sayOut ho ?_
    exact br_f (by decide) (br_f (by decide) (ph_283Y ht h))
  · subst e e1
    refine ph_say hs hb rfl ?_
    refine br_f (by decide) (br_t rfl (br_t rfl ?_))
    rcases g with ⟨e, g⟩ | ⟨e, g⟩
    · subst e
      rw [g]
      exact br_t rfl (ph_283Y (ph_nn ht (nI_pos' (by omega))) h)
    · subst e
      rw [g]
      exact br_f (by decide) (ph_283Y (ph_nn ht (nI_pos' (by omega))) h)
theorem ph_213N {x0 x1 x2 x3 x5 x13 x14 : Int32} (h : post 1 ()) : wL_lawOf_213 post mc ms x0 x1 x2 x3 x5 0 x13 x14 0 kc ks 0 f1 f2 f3 f4 f5 a1 a2 a3 a4 a5 := by
  have G : wL_lawOf_227 post mc ms x0 x1 x2 x3 x5 0 x13 x14 0 kc ks 0 f1 f2 f3 f4 f5 a1 a2 a3 a4 a5 := by
    unfold wL_lawOf_227
    exact ph_232N h
  unfold wL_lawOf_213
  exact br_c (fun _ => G) (fun _ => br_c (fun _ => ph_232N h) (fun _ => G))
theorem ph_213Z {x0 x1 x2 x3 x5 x13 x14 : Int32} (hx : ¬ x0 = 0) (h : post 1 ()) : wL_lawOf_213 post mc ms x0 x1 x2 x3 x5 1 x13 x14 0 kc ks 1 f1 f2 f3 f4 f5 a1 a2 a3 a4 a5 := by
  have G : wL_lawOf_227 post mc ms x0 x1 x2 x3 x5 1 x13 x14 0 kc ks 1 f1 f2 f3 f4 f5 a1 a2 a3 a4 a5 := by
    unfold wL_lawOf_227
    exact ph_232Z hx h
  unfold wL_lawOf_213
  exact br_c (fun _ => G) (fun _ => br_c (fun _ => ph_232Z hx h) (fun _ => G))
theorem ph_213Y {x1 x2 x3 x5 x13 x14 : Int32} (hk : ph_K x1 x3 x13 x14 a1) (ht : ∀ j, j < 8 → 0 ≤ a1 j) (h : post 1 ()) :
    wL_lawOf_213 post mc ms 0 x1 x2 x3 x5 1 x13 x14 1 kc ks 1 f1 f2 f3 f4 f5 a1 a2 a3 a4 a5 := by
  have G : (x5 < 0 ∨ ¬ x5 ≤ 9) → wL_lawOf_227 post mc ms 0 x1 x2 x3 x5 1 x13 x14 1 kc ks 1 f1 f2 f3 f4 f5 a1 a2 a3 a4 a5 := by
    intro hb
    unfold wL_lawOf_227
    exact ph_232B hk ht hb h
  unfold wL_lawOf_213
  refine br_c (fun z => G (Or.inl z)) (fun z => br_c (fun z9 => ?_) (fun z9 => G (Or.inr z9)))
  obtain ⟨o, ho, e⟩ := ph_trust0 z z9
  rw [e]
  exact ph_232Y hk ht ho h
theorem ph_194N {x0 x1 x2 x3 x5 x13 x14 z : Int32} (h : post 1 ()) : wL_lawOf_194 post mc ms x0 x1 x2 x3 x5 0 x13 x14 z z kc ks 0 f1 f2 f3 f4 f5 a1 a2 a3 a4 a5 := by
  unfold wL_lawOf_194
  refine br_t rfl (br_t rfl ?_)
  unfold wL_lawOf_212
  exact ph_213N h
theorem ph_194Y {x0 x1 x2 x3 x5 x13 x14 z : Int32} (hk : ph_K x1 x3 x13 x14 a1) (ht : ∀ j, j < 8 → 0 ≤ a1 j) (h : post 1 ()) :
    wL_lawOf_194 post mc ms x0 x1 x2 x3 x5 1 x13 x14 z z kc ks 1 f1 f2 f3 f4 f5 a1 a2 a3 a4 a5 := by
  unfold wL_lawOf_194
  refine br_t rfl (br_f (by decide) (br_c (fun e => ?_) (fun hx => ?_)))
  · rw [e]
    exact ph_213Y hk ht h
  · unfold wL_lawOf_212
    exact ph_213Z hx h
/-! N up to stretch -/
theorem ph_139N {x0 x1 x2 x3 x5 x7 x8 z0 : Int32} (hz : (z0 = 1 ∧ (x1 < 0 ∨ nI 8 ≤ x1)) ∨ (z0 = 0 ∧ ∃ s : Nat, s < 8 ∧ x1 = nI s)) (h : post 1 ()) :
    wL_lawOf_139 post mc ms x0 x1 x2 x3 x5 x7 x8 0 z0 kc ks 0 f1 f2 f3 f4 f5 a1 a2 a3 a4 a5 := by
  unfold wL_lawOf_139
  refine br_t rfl ?_
  unfold wL_lawOf_165
  unfold wL_lawOf_166
  rcases hz with ⟨e, ho⟩ | ⟨e, s, hs, e1⟩
  · subst e
    refine ph_covOut ho ?_
    exact br_f (by decide) (ph_194N h)
  · subst e e1
    refine ph_cov0 hs ?_
    exact br_t rfl (br_t rfl (ph_194N h))
theorem ph_122N {x0 x1 x2 x3 x5 x7 x8 : Int32} (h : post 1 ()) : wL_lawOf_122 post mc ms x0 x1 x2 x3 x5 x7 x8 0 kc ks 0 f1 f2 f3 f4 f5 a1 a2 a3 a4 a5 := by
  have G : (x1 < 0 ∨ nI 8 ≤ x1) → wL_lawOf_134 post mc ms x0 x1 x2 x3 x5 x7 x8 0 kc ks 0 f1 f2 f3 f4 f5 a1 a2 a3 a4 a5 := by
    intro ho
    unfold wL_lawOf_134
    exact ph_139N (Or.inl ⟨rfl, ho⟩) h
  unfold wL_lawOf_122
  rcases pk_ix x1 (n := 8) (by decide) with o | o | ⟨s, hs, e⟩
  · exact br_t o (G (Or.inl o))
  · exact br_f (ph_big o).1 (br_f (ph_big o).2.2 (G (Or.inr o)))
  · subst e
    exact br_f (nI_pos (by omega)) (br_t (nI_le (b := 7) (by omega) (by decide)) (ph_139N (Or.inr ⟨rfl, s, hs, rfl⟩) h))
/-! Y up to stretch -/
theorem ph_166Yo {x0 x1 x2 x3 x5 x14 : Int32} (ho : x1 < 0 ∨ nI 8 ≤ x1) (ht : ∀ j, j < 8 → 0 ≤ a1 j) (h : post 1 ()) :
    wL_lawOf_166 post mc ms x0 x1 x2 x3 x5 1 1 x14 kc ks 1 f1 f2 f3 f4 f5 a1 a2 a3 a4 a5 := by
  unfold wL_lawOf_166
  refine ph_covOut ho ?_
  exact br_f (by decide) (ph_194Y (Or.inl ⟨rfl, ho⟩) ht h)
theorem ph_166Y0 {x0 x2 x3 x5 : Int32} {s : Nat} (hs : s < 8) (g : a1 s = 0) (ht : ∀ j, j < 8 → 0 ≤ a1 j) (h : post 1 ()) :
    wL_lawOf_166 post mc ms x0 (nI s) x2 x3 x5 1 0 0 kc ks 1 f1 f2 f3 f4 f5 a1 a2 a3 a4 a5 := by
  unfold wL_lawOf_166
  refine ph_cov1 hs (fun _ => ?_) (fun z => absurd (show a1 s ≤ 0 by rw [g]; decide) z)
  exact br_t rfl (br_t rfl (ph_194Y (Or.inr ⟨rfl, s, hs, rfl, Or.inl ⟨rfl, g⟩⟩) ht h))
theorem ph_166Y1 {x0 x2 x5 : Int32} {s t : Nat} (hs : s < 8) (t1 : 1 ≤ t) (t9 : t ≤ 9) (g : a1 s = nI t) (ht : ∀ j, j < 8 → 0 ≤ a1 j) (h : post 1 ()) :
    wL_lawOf_166 post mc ms x0 (nI s) x2 (nI t) x5 1 0 1 kc ks 1 f1 f2 f3 f4 f5 a1 a2 a3 a4 a5 := by
  unfold wL_lawOf_166
  refine ph_cov1 hs (fun z => ?_) (fun _ => ?_)
  · rw [g] at z
    exact absurd z (nI_nle (by omega) (by omega))
  · exact br_t rfl (br_f (by decide) (ph_194Y (Or.inr ⟨rfl, s, hs, rfl, Or.inr ⟨rfl, g⟩⟩) ht h))
theorem ph_122Y {x0 x1 x2 x5 : Int32} {a k t : Nat} (t1 : 1 ≤ t) (t9 : t ≤ 9) (h3 : a + k ≤ 8) (hr : ∀ j, j < 8 → a1 j = if a ≤ j ∧ j < a + k then nI t else 0) (h : post 1 ()) :
    wL_lawOf_122 post mc ms x0 x1 x2 (nI t) x5 (nI a) (nI k) 1 kc ks 1 f1 f2 f3 f4 f5 a1 a2 a3 a4 a5 := by
  have ht : ∀ j, j < 8 → 0 ≤ a1 j := by
    intro j hj
    rw [hr j hj]
    by_cases g : a ≤ j ∧ j < a + k
    · rw [if_pos g]
      exact nI_pos' (by omega)
    · rw [if_neg g]
      decide
  have G : (x1 < 0 ∨ nI 8 ≤ x1) → wL_lawOf_134 post mc ms x0 x1 x2 (nI t) x5 (nI a) (nI k) 1 kc ks 1 f1 f2 f3 f4 f5 a1 a2 a3 a4 a5 := by
    intro ho
    have G5 : wL_lawOf_165 post mc ms x0 x1 x2 (nI t) x5 1 1 kc ks 1 f1 f2 f3 f4 f5 a1 a2 a3 a4 a5 := by
      unfold wL_lawOf_165
      exact ph_166Yo ho ht h
    unfold wL_lawOf_134
    unfold wL_lawOf_139
    exact br_f (by decide) (br_c (fun _ => G5) (fun _ => br_c (fun _ => G5) (fun _ => ph_166Yo ho ht h)))
  unfold wL_lawOf_122
  rcases pk_ix x1 (n := 8) (by decide) with o | o | ⟨s, hs, e⟩
  · exact br_t o (G (Or.inl o))
  · exact br_f (ph_big o).1 (br_f (ph_big o).2.2 (G (Or.inr o)))
  · subst e
    refine br_f (nI_pos (by omega)) (br_t (nI_le (b := 7) (by omega) (by decide)) ?_)
    have G5 : ¬ (a ≤ s ∧ s < a + k) → wL_lawOf_165 post mc ms x0 (nI s) x2 (nI t) x5 1 0 kc ks 1 f1 f2 f3 f4 f5 a1 a2 a3 a4 a5 := by
      intro g
      unfold wL_lawOf_165
      exact ph_166Y0 hs (by rw [hr s hs, if_neg g]) ht h
    unfold wL_lawOf_139
    refine br_f (by decide) ?_
    refine pk_lt s a (fun z => G5 (by omega)) (fun z => ?_)
    refine pk_le (a + k) s (fun w => G5 (by omega)) (fun w => ?_) (nI_add a k)
    exact ph_166Y1 hs t1 t9 (by rw [hr s hs, if_pos ⟨z, w⟩]) ht h
/-! stretch -/
theorem ph_94S {x0 x1 x2 x3 x4 x5 x7 x8 : Int32} {a k : Nat} (ha : a < 8) (hk : k < 16) (e4 : x4 &&& 7 = nI a) (e5 : (x4 >>> ((3 : Int32) &&& 31)) &&& 15 = nI k)
    (ho : k < 1 ∨ 8 < k ∨ 8 < a + k) (h : post 1 ()) : wL_lawOf_94 post mc ms x0 x1 x2 x3 x4 x5 x7 x8 (-2) kc ks 0 f1 f2 f3 f4 f5 a1 a2 a3 a4 a5 := by
  unfold wL_lawOf_94
  refine ph_strS ha hk e4 e5 ho ?_
  exact br_t rfl (br_f (by decide) (ph_122N h))
theorem ph_94T {x0 x1 x2 x3 x4 x5 x7 x8 : Int32} {a k : Nat} (ha : a < 8) (hk : k < 16) (e4 : x4 &&& 7 = nI a) (e5 : (x4 >>> ((3 : Int32) &&& 31)) &&& 15 = nI k)
    (h1 : 1 ≤ k) (h2 : k ≤ 8) (h3 : a + k ≤ 8) (hb : x3 < 1 ∨ ¬ x3 ≤ 9) (h : post 1 ()) : wL_lawOf_94 post mc ms x0 x1 x2 x3 x4 x5 x7 x8 (-3) kc ks 0 f1 f2 f3 f4 f5 a1 a2 a3 a4 a5 := by
  unfold wL_lawOf_94
  refine ph_strT ha hk e4 e5 h1 h2 h3 hb ?_
  exact br_t rfl (br_f (by decide) (ph_122N h))
theorem ph_94Y {x0 x1 x2 x4 x5 : Int32} {a k t : Nat} (ha : a < 8) (hk : k < 16) (e4 : x4 &&& 7 = nI a) (e5 : (x4 >>> ((3 : Int32) &&& 31)) &&& 15 = nI k)
    (h1 : 1 ≤ k) (h2 : k ≤ 8) (h3 : a + k ≤ 8) (t1 : 1 ≤ t) (t9 : t ≤ 9) (h : post 1 ()) : wL_lawOf_94 post mc ms x0 x1 x2 (nI t) x4 x5 (nI a) (nI k) 0 kc ks 0 f1 f2 f3 f4 f5 a1 a2 a3 a4 a5 := by
  unfold wL_lawOf_94
  refine ph_str ha hk e4 e5 h1 h2 h3 t1 t9 (fun b1 b2 hr => ?_)
  exact br_t rfl (br_t rfl (ph_122Y t1 t9 h3 hr h))
theorem ph_53S {x0 x1 x2 x3 x4 x5 x7 x8 : Int32} {a k : Nat} (ha : a < 8) (hk : k < 16) (e4 : x4 &&& 7 = nI a) (e5 : (x4 >>> ((3 : Int32) &&& 31)) &&& 15 = nI k)
    (ho : k < 1 ∨ 8 < k ∨ 8 < a + k) (h : post 1 ()) : wL_lawOf_48 post mc ms x0 x1 x2 x3 x4 x5 x7 x8 kc ks 0 f1 f2 f3 f4 f5 a1 a2 a3 a4 a5 := by
  have G7 : ∀ z : Int32, wL_lawOf_71 post mc ms x0 x1 x2 x3 x4 x5 x7 x8 1 z kc ks 0 f1 f2 f3 f4 f5 a1 a2 a3 a4 a5 := by
    intro z
    unfold wL_lawOf_71
    exact br_f (by decide) (ph_94S ha hk e4 e5 ho h)
  have G6 : wL_lawOf_66 post mc ms x0 x1 x2 x3 x4 x5 x7 x8 1 kc ks 0 f1 f2 f3 f4 f5 a1 a2 a3 a4 a5 := by
    unfold wL_lawOf_66
    exact G7 1
  unfold wL_lawOf_48
  unfold wL_lawOf_53
  exact br_c (fun _ => G6) (fun _ => br_c (fun _ => G7 0) (fun _ => G6))
theorem ph_53Y {x0 x1 x2 x3 x4 x5 : Int32} {a k : Nat} (ha : a < 8) (hk : k < 16) (e4 : x4 &&& 7 = nI a) (e5 : (x4 >>> ((3 : Int32) &&& 31)) &&& 15 = nI k)
    (h1 : 1 ≤ k) (h2 : k ≤ 8) (h3 : a + k ≤ 8) (h : post 1 ()) : wL_lawOf_53 post mc ms x0 x1 x2 x3 x4 x5 (nI a) (nI k) 0 kc ks 0 f1 f2 f3 f4 f5 a1 a2 a3 a4 a5 := by
  have G6 : (x3 < 1 ∨ ¬ x3 ≤ 9) → wL_lawOf_66 post mc ms x0 x1 x2 x3 x4 x5 (nI a) (nI k) 0 kc ks 0 f1 f2 f3 f4 f5 a1 a2 a3 a4 a5 := by
    intro hb
    unfold wL_lawOf_66
    unfold wL_lawOf_71
    exact br_t rfl (br_f (by decide) (ph_94T ha hk e4 e5 h1 h2 h3 hb h))
  unfold wL_lawOf_53
  refine br_c (fun z => G6 (Or.inl z)) (fun z => br_c (fun z9 => ?_) (fun z9 => G6 (Or.inr z9)))
  obtain ⟨t, t1, t9, e⟩ := ph_trust z z9
  rw [e]
  unfold wL_lawOf_71
  exact br_t rfl (br_t rfl (ph_94Y ha hk e4 e5 h1 h2 h3 t1 t9 h))
theorem ph_lawOf {p0 p1 p2 p3 p4 p5 : Int32} (h : post 1 ()) : wpL_lawOf post 6 907 () p0 p1 p2 p3 p4 p5 := by
  unfold wpL_lawOf
  refine ⟨by omega, by omega, 5, 896, by omega, by omega, ?_⟩
  unfold wpX_init
  refine ⟨by omega, by omega, by omega, by omega, by omega, by omega, by omega, by omega, by omega, by omega, ?_⟩
  obtain ⟨a, ha, e4⟩ := pk_andE p4 3 (m := 7) (by decide)
  obtain ⟨k, hk, e5⟩ := pk_andE (p4 >>> ((3 : Int32) &&& 31)) 4 (m := 15) (by decide)
  refine nm_r e4 (nm_r e5 ?_)
  by_cases odd : k < 1 ∨ 8 < k ∨ 8 < a + k
  · refine pk_lt k 1 (fun _ => ph_53S ha hk e4 e5 odd h) (fun z1 => ?_)
    refine pk_lt 8 k (fun _ => ph_53S ha hk e4 e5 odd h) (fun z2 => ?_)
    exact pk_le (a + k) 8 (fun z3 => absurd odd (by omega)) (fun _ => ph_53S ha hk e4 e5 odd h) (nI_add a k)
  · refine pk_lt k 1 (fun z => absurd z (by omega)) (fun _ => ?_)
    refine pk_lt 8 k (fun z => absurd z (by omega)) (fun _ => ?_)
    exact pk_le (a + k) 8 (fun _ => ph_53Y ha hk e4 e5 (by omega) (by omega) (by omega) h) (fun z => absurd z (by omega)) (nI_add a k)
end
theorem ph_cell {post : Int32 → Prop} {L : Nat} {xs : Nat → Int32} {p : Int32} (k : Nat) (hL : L ≤ 6) (hk : k < 6) (e : p = nI k) (H : ∀ x, post x) : wpL_cellAt post L xs () p := by
  unfold wpL_cellAt
  subst e
  exact pk_le L k (fun _ => H _) (fun z => ⟨pk_in k L z, H _⟩)
end
section
theorem i_vc (xs : Nat → Int32) (L : Nat) (hL : L ≤ 6) : wpL_law (fun r => r = 1) L xs := by
  unfold wpL_law
  refine ph_cell 0 hL (by omega) rfl (fun r1 => ?_)
  refine ph_cell 1 hL (by omega) rfl (fun r2 => ?_)
  refine ph_cell 2 hL (by omega) rfl (fun r3 => ?_)
  refine ph_cell 3 hL (by omega) rfl (fun r4 => ?_)
  refine ph_cell 4 hL (by omega) rfl (fun r5 => ?_)
  refine ph_cell 5 hL (by omega) rfl (fun r6 => ?_)
  exact ⟨6, 907, by omega, by omega, ph_lawOf rfl⟩
end
