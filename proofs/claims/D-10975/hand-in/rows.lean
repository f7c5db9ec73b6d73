section
/-! the class's methods, at the states that the law brings about -/
/-- processes p, its power of three v, the limit l, the start c, and p as a natural -/
def sy_P (n : Nat) (p v l c : Int32) : Prop :=
  (n = 1 ∧ p = 1 ∧ v = 3 ∧ l = 18 ∧ c = 9) ∨ (n = 2 ∧ p = 2 ∧ v = 9 ∧ l = 81 ∧ c = 54) ∨ (n = 3 ∧ p = 3 ∧ v = 27 ∧ l = 324 ∧ c = 243) ∨ (n = 4 ∧ p = 4 ∧ v = 81 ∧ l = 1215 ∧ c = 972)
theorem sy_Pn {n : Nat} {p v l c : Int32} (h : sy_P n p v l c) : 1 ≤ n ∧ n ≤ 4 ∧ p = nI n ∧ l / (p + 1) * p = c ∧ ¬ p + 1 = 0 ∧ ¬ c < 0 ∧ ¬ l ≤ c ∧ 3 * v * (p + 1) = l ∧ ¬ 3 * v = 0 ∧ c / (3 * v) = p := by
  rcases h with ⟨rfl, rfl, rfl, rfl, rfl⟩ | ⟨rfl, rfl, rfl, rfl, rfl⟩ | ⟨rfl, rfl, rfl, rfl, rfl⟩ | ⟨rfl, rfl, rfl, rfl, rfl⟩ <;> decide
theorem sy_ps {post : Int32 → Prop} {p a i a' i' : Int32} {n : Nat} (h1 : ¬ p ≤ i) (h2 : ¬ 4 ≤ i) (ha : a * 3 = a') (hi : i + 1 = i') (h : wX_power_4 post p n a' i') : wX_power_4 post p (n + 1) a i :=
  br_f h1 (br_f h2 (nm_r ha (nm_r hi h)))
theorem sy_pz {post : Int32 → Prop} {p a i : Int32} {n : Nat} (h1 : p ≤ i) (h : post a) : wX_power_4 post p (n + 1) a i :=
  br_t h1 h
theorem sy_pow {post : Int32 → Prop} {n : Nat} {p v l c : Int32} (hp : sy_P n p v l c) (h : post v) : wpX_power post () p := by
  rcases hp with ⟨rfl, rfl, rfl, rfl, rfl⟩ | ⟨rfl, rfl, rfl, rfl, rfl⟩ | ⟨rfl, rfl, rfl, rfl, rfl⟩ | ⟨rfl, rfl, rfl, rfl, rfl⟩
  · exact ⟨2, sy_ps (a' := 3) (i' := 1) (by decide) (by decide) (by decide) (by decide) (sy_pz (by decide) h)⟩
  · exact ⟨3, sy_ps (a' := 3) (i' := 1) (by decide) (by decide) (by decide) (by decide) (sy_ps (a' := 9) (i' := 2) (by decide) (by decide) (by decide) (by decide) (sy_pz (by decide) h))⟩
  · exact ⟨4, sy_ps (a' := 3) (i' := 1) (by decide) (by decide) (by decide) (by decide) (sy_ps (a' := 9) (i' := 2) (by decide) (by decide) (by decide) (by decide) (sy_ps (a' := 27) (i' := 3) (by decide) (by decide) (by decide) (by decide) (sy_pz (by decide) h)))⟩
  · exact ⟨5, sy_ps (a' := 3) (i' := 1) (by decide) (by decide) (by decide) (by decide) (sy_ps (a' := 9) (i' := 2) (by decide) (by decide) (by decide) (by decide) (sy_ps (a' := 27) (i' := 3) (by decide) (by decide) (by decide) (by decide) (sy_ps (a' := 81) (i' := 4) (by decide) (by decide) (by decide) (by decide) (sy_pz (by decide) h))))⟩
section
variable {sh ho p rc al kn ex v l c : Int32} {a1 a2 a3 a4 a5 a6 a7 a8 a9 a10 a11 a12 a13 a14 : Nat → Int32} {n : Nat}
theorem sy_lim {post : Int32 → Prop} (hp : sy_P n p v l c) (h : post l) : wpX_limit post (sh, ho, p, rc, al, kn, ex, a1, a2, a3, a4, a5, a6, a7, a8, a9, a10, a11, a12, a13, a14) := by
  unfold wpX_limit
  dsimp only
  refine sy_pow hp ?_
  rw [(sy_Pn hp).2.2.2.2.2.2.2.1]
  exact h
theorem sy_code {post : Int32 → Prop} (hp : sy_P n p v l c) (h : post 1) : wpX_isCode post (sh, ho, p, rc, al, kn, ex, a1, a2, a3, a4, a5, a6, a7, a8, a9, a10, a11, a12, a13, a14) c := by
  unfold wpX_isCode
  dsimp only
  exact sy_lim hp (br_f (sy_Pn hp).2.2.2.2.2.1 (br_f (sy_Pn hp).2.2.2.2.2.2.1 h))
theorem sy_cs {post : Int32 → St2 → Prop} {x3 x2 x4 y2 y4 : Int32} {k : Nat} (h1 : ¬ p ≤ x4) (h3 : x2 - x2 / 3 * 3 = 0) (h4 : x2 / 3 = y2) (h5 : ¬ x4 = x3) (h6 : x4 + 1 = y4)
    (h : wX_classOf_43 post x3 sh p rc al kn ex k y2 y4 ho a1 a2 a3 a4 a5 a6 a7 a8 a9 a10 a11 a12 a13 (upd a14 0 (a14 0 + 1))) :
    wX_classOf_43 post x3 sh p rc al kn ex (k + 1) x2 x4 ho a1 a2 a3 a4 a5 a6 a7 a8 a9 a10 a11 a12 a13 a14 :=
  br_f h1 ⟨by decide, nm_r h3 ⟨by decide, nm_r h4 (br_f h5 ⟨pk_in 0 3 (by decide), pk_in 0 3 (by decide), nm_r (e' := upd a14 0 (a14 0 + 1)) rfl (nm_r h6 h)⟩)⟩⟩
theorem sy_cz {post : Int32 → St2 → Prop} {x3 x2 x4 : Int32} {k : Nat} (h1 : p ≤ x4) (h3 : x2 - x2 / 3 * 3 = 0)
    (h : ∀ r, post r (0, ho, p, rc, al, kn, ex, a1, a2, a3, a4, a5, a6, a7, a8, a9, a10, a11, a12, a13, a14)) :
    wX_classOf_43 post x3 sh p rc al kn ex (k + 1) x2 x4 ho a1 a2 a3 a4 a5 a6 a7 a8 a9 a10 a11 a12 a13 a14 :=
  br_t h1 ⟨by decide, nm_r h3 (h _)⟩
theorem sy_cls {post : Int32 → St2 → Prop} (hp : sy_P n p v l c)
    (h : ∀ r a, a 0 = p → a 1 = 0 → a 2 = 0 → post r (0, 3, p, rc, al, kn, ex, a1, a2, a3, a4, a5, a6, a7, a8, a9, a10, a11, a12, a13, a)) :
    wpX_classOf post (sh, ho, p, rc, al, kn, ex, a1, a2, a3, a4, a5, a6, a7, a8, a9, a10, a11, a12, a13, a14) c := by
  unfold wpX_classOf
  dsimp only
  refine sy_pow hp ⟨(sy_Pn hp).2.2.2.2.2.2.2.2.1, nm_r (sy_Pn hp).2.2.2.2.2.2.2.2.2 (nm_e (nm_e (nm_e ?_)))⟩
  rcases hp with ⟨rfl, rfl, rfl, rfl, rfl⟩ | ⟨rfl, rfl, rfl, rfl, rfl⟩ | ⟨rfl, rfl, rfl, rfl, rfl⟩ | ⟨rfl, rfl, rfl, rfl, rfl⟩
  · exact ⟨2, sy_cs (y2 := 3) (y4 := 1) (by decide) (by decide) (by decide) (by decide) (by decide) (sy_cz (by decide) (by decide) (fun r => h r _ rfl rfl rfl))⟩
  · exact ⟨3, sy_cs (y2 := 18) (y4 := 1) (by decide) (by decide) (by decide) (by decide) (by decide) (sy_cs (y2 := 6) (y4 := 2) (by decide) (by decide) (by decide) (by decide) (by decide) (sy_cz (by decide) (by decide) (fun r => h r _ rfl rfl rfl)))⟩
  · exact ⟨4, sy_cs (y2 := 81) (y4 := 1) (by decide) (by decide) (by decide) (by decide) (by decide) (sy_cs (y2 := 27) (y4 := 2) (by decide) (by decide) (by decide) (by decide) (by decide) (sy_cs (y2 := 9) (y4 := 3) (by decide) (by decide) (by decide) (by decide) (by decide) (sy_cz (by decide) (by decide) (fun r => h r _ rfl rfl rfl))))⟩
  · exact ⟨5, sy_cs (y2 := 324) (y4 := 1) (by decide) (by decide) (by decide) (by decide) (by decide) (sy_cs (y2 := 108) (y4 := 2) (by decide) (by decide) (by decide) (by decide) (by decide) (sy_cs (y2 := 36) (y4 := 3) (by decide) (by decide) (by decide) (by decide) (by decide) (sy_cs (y2 := 12) (y4 := 4) (by decide) (by decide) (by decide) (by decide) (by decide) (sy_cz (by decide) (by decide) (fun r => h r _ rfl rfl rfl)))))⟩
/-! one rule, at place 0: fr, si, cr, mo, t; nobody holds the token, all n processes stand at place 0 -/
theorem sy_e111 {post : Int32 → Prop} {z0 z1 : Int32} {q mo t : Nat} (hz : z1 - z0 = nI q) (hq : q ≤ 4) (hmo : mo ≤ 3) (ht : t ≤ 4) (h6 : a6 0 = nI mo) (h7 : a7 0 = nI t)
    (hT : q ≤ mo → t ≠ 2 → t ≠ 3 → post 1) (hF : (¬ (q ≤ mo ∧ t ≠ 2 ∧ t ≠ 3)) → post 0) :
    wX_enabled_111 post 0 0 z0 z1 sh 3 p rc al kn ex a1 a2 a3 a4 a5 a6 a7 a8 a9 a10 a11 a12 a13 a14 := by
  unfold wX_enabled_111
  refine nm_r hz ⟨pk_in 0 12 (by decide), pk_le q mo (fun g => ⟨pk_in 0 12 (by decide), nm_r (e' := nI t) h7 ?_⟩) (fun g => hF (by omega)) rfl h6⟩
  refine pk_eq t 1 (fun e => br_t rfl (hT g (by omega) (by omega))) (fun e1 => pk_eq t 2 (fun e => ⟨by decide, hF (by omega)⟩) (fun e2 => pk_eq t 3 (fun e => ⟨by decide, hF (by omega)⟩) (fun e3 => pk_eq t 0 (fun e => hT g e2 e3) (fun e => br_t rfl (hT g e2 e3)))))
theorem sy_e58 {post : Int32 → Prop} {cr mo t : Nat} (hn1 : 1 ≤ n) (hn4 : n ≤ 4) (hcr : cr ≤ 2) (hmo : mo ≤ 3) (ht : t ≤ 4) (h5 : a5 0 = nI cr) (h6 : a6 0 = nI mo) (h7 : a7 0 = nI t)
    (g0 : a14 0 = nI n) (g1 : a14 1 = 0) (g2 : a14 2 = 0)
    (hT : (cr = 0 → n ≤ mo + 1) → t ≠ 2 → t ≠ 3 → post 1) (hF : (¬ ((cr = 0 → n ≤ mo + 1) ∧ t ≠ 2 ∧ t ≠ 3)) → post 0) :
    wX_enabled_58 post 0 0 0 sh 3 p rc al kn ex a1 a2 a3 a4 a5 a6 a7 a8 a9 a10 a11 a12 a13 a14 := by
  unfold wX_enabled_58
  have h5' : a5 (0 : Int32).toNatClampNeg = nI cr := h5
  rw [h5', nI_clamp (by omega)]
  refine ⟨pk_in 0 12 (by decide), pk_in cr 3 (by omega), nm_e ⟨pk_in 0 12 (by decide), pk_eq 3 cr (fun e => absurd e (by omega)) (fun _ => ?_)⟩⟩
  unfold wX_enabled_91
  rw [h5']
  refine nm_e ⟨pk_in 0 12 (by decide), pk_eq 0 cr (fun e => ?_) (fun e => ?_)⟩
  · subst e
    refine sy_e111 (q := n - 1) ?_ (by omega) hmo ht h6 h7 (fun a b d => hT (fun _ => by omega) b d) (fun a => hF (fun b => a ⟨by have := b.1 rfl; omega, b.2⟩))
    rw [g0]
    obtain ⟨k, rfl⟩ : ∃ k, n = k + 1 := ⟨n - 1, by omega⟩
    rw [show nI (k + 1) + 0 = nI (k + 1) from Int32.add_zero _, nI_pred]
    rfl
  · have e0 : a14 cr = 0 := by
      rcases (show cr = 1 ∨ cr = 2 by omega) with rfl | rfl
      · exact g1
      · exact g2
    refine sy_e111 (q := 0) ?_ (by omega) hmo ht h6 h7 (fun a b d => hT (fun z => absurd z.symm e) b d) (fun a => hF (fun b => a ⟨by omega, b.2⟩))
    rw [e0]
    decide
theorem sy_en0 {post : Int32 → Prop} {fr si cr mo t : Nat} (hn1 : 1 ≤ n) (hn4 : n ≤ 4) (hfr : fr ≤ 2) (hsi : si ≤ 3) (hcr : cr ≤ 2) (hmo : mo ≤ 3) (ht : t ≤ 4)
    (h1 : a1 0 = nI fr) (h3 : a3 0 = nI si) (h5 : a5 0 = nI cr) (h6 : a6 0 = nI mo) (h7 : a7 0 = nI t)
    (g0 : a14 0 = nI n) (g1 : a14 1 = 0) (g2 : a14 2 = 0)
    (hT : fr = 0 → (si = 0 ∨ si = 3) → (cr = 0 → n ≤ mo + 1) → t ≠ 2 → t ≠ 3 → post 1)
    (hF : (¬ (fr = 0 ∧ (si = 0 ∨ si = 3) ∧ (cr = 0 → n ≤ mo + 1) ∧ t ≠ 2 ∧ t ≠ 3)) → post 0) :
    wpX_enabled post (0, 3, p, rc, al, kn, ex, a1, a2, a3, a4, a5, a6, a7, a8, a9, a10, a11, a12, a13, a14) 0 0 := by
  unfold wpX_enabled
  dsimp only
  refine ⟨pk_in 0 12 (by decide), nm_r (e' := nI fr) h1 (br_t rfl ⟨pk_in fr 3 (by omega), ?_⟩)⟩
  rw [nI_clamp (by omega)]
  by_cases f0 : fr = 0
  · subst f0
    refine br_f (by rw [g0]; exact nI_ne0 (by omega) (by omega)) ?_
    unfold wX_enabled_33
    refine ⟨pk_in 0 12 (by decide), pk_eq si 3 (fun e => ?_) (fun e => ⟨pk_in 0 12 (by decide), pk_eq si 0 (fun e' => ?_) (fun e' => hF (fun z => by rcases z.2.1 with y | y <;> omega)) h3⟩) h3⟩
    · exact sy_e58 hn1 hn4 hcr hmo ht h5 h6 h7 g0 g1 g2 (hT rfl (Or.inr e)) (fun z => hF (fun y => z y.2.2))
    · exact sy_e58 hn1 hn4 hcr hmo ht h5 h6 h7 g0 g1 g2 (hT rfl (Or.inl e')) (fun z => hF (fun y => z y.2.2))
  · refine br_t ?_ (hF (fun z => f0 z.1))
    rcases (show fr = 1 ∨ fr = 2 by omega) with rfl | rfl
    · exact g1
    · exact g2
theorem sy_en1 {post : Int32 → Prop} {fr : Nat} (hfr : fr ≤ 2) (h1 : a1 0 = nI fr) (h : post 0) :
    wpX_enabled post (sh, 3, p, rc, al, kn, ex, a1, a2, a3, a4, a5, a6, a7, a8, a9, a10, a11, a12, a13, a14) 0 1 := by
  unfold wpX_enabled
  dsimp only
  exact ⟨pk_in 0 12 (by decide), nm_r (e' := nI fr) h1 (br_f (by decide) (pk_eq 3 fr (fun e => absurd e (by omega)) (fun _ => h)))⟩
theorem sy_ch0 {post : Int32 → Prop} (h : post 0) :
    wpX_choicesHere post (sh, ho, p, 0, al, kn, ex, a1, a2, a3, a4, a5, a6, a7, a8, a9, a10, a11, a12, a13, a14) := by
  unfold wpX_choicesHere
  dsimp only
  exact ⟨1, br_t (by decide) h⟩
theorem sy_ch1 {post : Int32 → Prop} {fr si cr mo t : Nat} (hn1 : 1 ≤ n) (hn4 : n ≤ 4) (hfr : fr ≤ 2) (hsi : si ≤ 3) (hcr : cr ≤ 2) (hmo : mo ≤ 3) (ht : t ≤ 4)
    (h1 : a1 0 = nI fr) (h3 : a3 0 = nI si) (h5 : a5 0 = nI cr) (h6 : a6 0 = nI mo) (h7 : a7 0 = nI t)
    (g0 : a14 0 = nI n) (g1 : a14 1 = 0) (g2 : a14 2 = 0)
    (hT : fr = 0 → (si = 0 ∨ si = 3) → (cr = 0 → n ≤ mo + 1) → t ≠ 2 → t ≠ 3 → post (nI n))
    (hF : (¬ (fr = 0 ∧ (si = 0 ∨ si = 3) ∧ (cr = 0 → n ≤ mo + 1) ∧ t ≠ 2 ∧ t ≠ 3)) → post 0) :
    wpX_choicesHere post (0, 3, p, 1, al, kn, ex, a1, a2, a3, a4, a5, a6, a7, a8, a9, a10, a11, a12, a13, a14) := by
  unfold wpX_choicesHere
  dsimp only
  refine ⟨2, br_f (by decide) (sy_en1 hfr h1 (br_t rfl ?_))⟩
  unfold wX_choicesHere_24
  refine sy_en0 hn1 hn4 hfr hsi hcr hmo ht h1 h3 h5 h6 h7 g0 g1 g2 (fun a b d e f => ?_) (fun z => ?_)
  · subst a
    refine br_f (by decide) ⟨pk_in 0 12 (by decide), pk_in 0 3 (by decide) h1, nm_r (e' := nI n) ?_ (nm_r (e' := 1) (by decide) (br_t (by decide) (hT rfl b d e f)))⟩
    have h1' : a1 (0 : Int32).toNatClampNeg = nI 0 := h1
    rw [h1', nI_clamp (by omega), g0]
    exact Int32.zero_add _
  · exact br_t rfl (nm_r (e' := 1) (by decide) (br_t (by decide) (hF z)))
theorem sy_cho0 {post : Int32 → St2 → Prop} (hp : sy_P n p v l c)
    (h : ∀ a, post 0 (0, 3, p, 0, al, kn, ex, a1, a2, a3, a4, a5, a6, a7, a8, a9, a10, a11, a12, a13, a)) :
    wpX_choices post (sh, ho, p, 0, al, kn, ex, a1, a2, a3, a4, a5, a6, a7, a8, a9, a10, a11, a12, a13, a14) c := by
  unfold wpX_choices
  dsimp only
  exact sy_code hp (br_f (by decide) (sy_cls hp (fun r a _ _ _ => sy_ch0 (h a))))
theorem sy_cho1 {post : Int32 → St2 → Prop} {fr si cr mo t : Nat} (hp : sy_P n p v l c) (hfr : fr ≤ 2) (hsi : si ≤ 3) (hcr : cr ≤ 2) (hmo : mo ≤ 3) (ht : t ≤ 4)
    (h1 : a1 0 = nI fr) (h3 : a3 0 = nI si) (h5 : a5 0 = nI cr) (h6 : a6 0 = nI mo) (h7 : a7 0 = nI t)
    (hT : fr = 0 → (si = 0 ∨ si = 3) → (cr = 0 → n ≤ mo + 1) → t ≠ 2 → t ≠ 3 → ∀ a, post p (0, 3, p, 1, al, kn, ex, a1, a2, a3, a4, a5, a6, a7, a8, a9, a10, a11, a12, a13, a))
    (hF : (¬ (fr = 0 ∧ (si = 0 ∨ si = 3) ∧ (cr = 0 → n ≤ mo + 1) ∧ t ≠ 2 ∧ t ≠ 3)) → ∀ a, post 0 (0, 3, p, 1, al, kn, ex, a1, a2, a3, a4, a5, a6, a7, a8, a9, a10, a11, a12, a13, a)) :
    wpX_choices post (sh, ho, p, 1, al, kn, ex, a1, a2, a3, a4, a5, a6, a7, a8, a9, a10, a11, a12, a13, a14) c := by
  unfold wpX_choices
  dsimp only
  have hn := sy_Pn hp
  refine sy_code hp (br_f (by decide) (sy_cls hp (fun r a g0 g1 g2 => ?_)))
  refine sy_ch1 hn.1 hn.2.1 hfr hsi hcr hmo ht h1 h3 h5 h6 h7 (g0.trans hn.2.2.1) g1 g2 (fun b d e f g => ?_) (fun z => hF z a)
  have := hT b d e f g a
  rw [← hn.2.2.1]
  exact this
theorem sy_dr0 {post : Int32 → St2 → Prop} (h : post (-1) (sh, ho, p, 0, al, kn, ex, a1, a2, a3, a4, a5, a6, a7, a8, a9, a10, a11, a12, a13, a14)) :
    wpX_dropRule post (sh, ho, p, 0, al, kn, ex, a1, a2, a3, a4, a5, a6, a7, a8, a9, a10, a11, a12, a13, a14) 0 := by
  unfold wpX_dropRule
  dsimp only
  exact br_f (by decide) (br_f (by decide) h)
theorem sy_dr1 {post : Int32 → St2 → Prop} (h : post 0 (sh, ho, p, 0, al, kn, 0, a1, a2, a3, a4, a5, a6, a7, a8, a9, a10, a11, a12, a13, a14)) :
    wpX_dropRule post (sh, ho, p, 1, al, kn, ex, a1, a2, a3, a4, a5, a6, a7, a8, a9, a10, a11, a12, a13, a14) 0 := by
  unfold wpX_dropRule
  dsimp only
  exact br_f (by decide) (br_t (by decide) (nm_r (e' := 1) (by decide) ⟨1, br_t (by decide) (nm_r (e' := 0) (by decide) h)⟩))
theorem sy_add {post : Int32 → St2 → Prop} {x1 x2 x3 x4 : Int32} (b1 : ¬ x1 < 0) (c1 : x1 ≤ 8) (b2 : ¬ x2 < 0) (c2 : x2 ≤ 15) (b3 : ¬ x3 < 0) (c3 : x3 ≤ 11) (b4 : ¬ x4 < 0) (c4 : x4 ≤ 4)
    (h : post 1 (sh, ho, p, 1, al, kn, 0, upd a1 0 (x1 / 3), upd a2 0 (x1 - x1 / 3 * 3), upd a3 0 (x2 >>> ((2 : Int32) &&& 31)), upd a4 0 (x2 &&& 3), upd a5 0 (x3 >>> ((2 : Int32) &&& 31)), upd a6 0 (x3 &&& 3), upd a7 0 x4, a8, a9, a10, a11, a12, a13, a14)) :
    wpX_addRule post (sh, ho, p, 0, al, kn, ex, a1, a2, a3, a4, a5, a6, a7, a8, a9, a10, a11, a12, a13, a14) x1 x2 x3 x4 := by
  unfold wpX_addRule
  dsimp only
  have i0 : vp_in 0 12 := pk_in 0 12 (by decide)
  exact br_f b1 (br_t c1 (br_f b2 (br_t c2 (br_f b3 (br_t c3 (br_f b4 (br_t c4 (br_f (by decide) ⟨by decide, i0, nm_e ⟨by decide, i0, nm_e ⟨i0, nm_e ⟨i0, nm_e ⟨i0, nm_e ⟨i0, nm_e ⟨i0, nm_e (nm_r (e' := 1) (by decide) h)⟩⟩⟩⟩⟩⟩⟩))))))))
end
end
section
/-! the law's joins, from the last to the first -/
section
variable {sh ho p rc al kn ex v l c : Int32} {a1 a2 a3 a4 a5 a6 a7 a8 a9 a10 a11 a12 a13 a14 : Nat → Int32} {n mc ms kc ks : Nat}
theorem sy_267a {z : Int32} : wL_lawOf_267 (fun r _ => r = 1) mc ms 1 z z kc ks sh ho p 1 al kn ex a1 a2 a3 a4 a5 a6 a7 a8 a9 a10 a11 a12 a13 a14 := by
  unfold wL_lawOf_267
  refine br_t rfl ?_
  unfold wpX_rules
  dsimp only
  refine br_t rfl ?_
  unfold wL_lawOf_288
  refine br_t rfl (sy_dr1 (br_t rfl ?_))
  exact br_t rfl rfl
theorem sy_267b {x8 z : Int32} (h8 : ¬ x8 = 1) : wL_lawOf_267 (fun r _ => r = 1) mc ms x8 z z kc ks sh ho p 0 al kn ex a1 a2 a3 a4 a5 a6 a7 a8 a9 a10 a11 a12 a13 a14 := by
  unfold wL_lawOf_267
  refine br_t rfl ?_
  unfold wpX_rules
  dsimp only
  refine br_f h8 ?_
  unfold wL_lawOf_288
  refine br_t rfl (sy_dr0 (br_f h8 ?_))
  exact br_t rfl rfl
theorem sy_237b {x8 : Int32} (hp : sy_P n p v l c) (h8 : ¬ x8 = 1) : wL_lawOf_237 (fun r _ => r = 1) mc ms p l x8 0 kc ks sh ho p 0 al kn ex a1 a2 a3 a4 a5 a6 a7 a8 a9 a10 a11 a12 a13 a14 := by
  unfold wL_lawOf_237
  exact ⟨(sy_Pn hp).2.2.2.2.1, nm_r (sy_Pn hp).2.2.2.1 (sy_cho0 hp (fun a => br_t rfl (sy_267b h8)))⟩
theorem sy_222b {x4 x8 : Int32} (hp : sy_P n p v l c) (h8 : ¬ x8 = 1) : wL_lawOf_222 (fun r _ => r = 1) mc ms x4 p l x8 0 kc ks sh ho p 0 al kn ex a1 a2 a3 a4 a5 a6 a7 a8 a9 a10 a11 a12 a13 a14 := by
  unfold wL_lawOf_222 wL_lawOf_234
  exact br_c (fun _ => sy_237b hp h8) (fun _ => br_c (fun _ => sy_237b hp h8) (fun _ => sy_237b hp h8))
theorem sy_203b {x3 x4 x8 : Int32} (hp : sy_P n p v l c) (h8 : ¬ x8 = 1) : wL_lawOf_203 (fun r _ => r = 1) mc ms x3 x4 p l x8 kc ks sh ho p 0 al kn ex a1 a2 a3 a4 a5 a6 a7 a8 a9 a10 a11 a12 a13 a14 := by
  unfold wL_lawOf_203 wL_lawOf_204
  exact br_c (fun _ => sy_222b hp h8) (fun _ => br_c (fun _ => sy_222b hp h8) (fun _ => sy_222b hp h8))
theorem sy_160b {x1 x2 x3 x4 x8 : Int32} (hp : sy_P n p v l c) (h8 : ¬ x8 = 1)
    (hA : ∀ post : Int32 → St2 → Prop, post x8 (sh, ho, p, 0, al, kn, ex, a1, a2, a3, a4, a5, a6, a7, a8, a9, a10, a11, a12, a13, a14) → wpX_addRule post (sh, ho, p, 0, al, kn, ex, a1, a2, a3, a4, a5, a6, a7, a8, a9, a10, a11, a12, a13, a14) x1 x2 x3 x4) :
    wL_lawOf_160 (fun r _ => r = 1) mc ms x1 x2 x3 x4 p l x8 kc ks sh ho p 0 al kn ex a1 a2 a3 a4 a5 a6 a7 a8 a9 a10 a11 a12 a13 a14 := by
  unfold wL_lawOf_160
  exact hA _ (br_t rfl (br_f h8 (sy_203b hp h8)))
theorem sy_237a {x9 : Int32} {fr si cr mo t : Nat} (hp : sy_P n p v l c) (hfr : fr ≤ 2) (hsi : si ≤ 3) (hcr : cr ≤ 2) (hmo : mo ≤ 3) (ht : t ≤ 4)
    (h1 : a1 0 = nI fr) (h3 : a3 0 = nI si) (h5 : a5 0 = nI cr) (h6 : a6 0 = nI mo) (h7 : a7 0 = nI t)
    (hT : fr = 0 → (si = 0 ∨ si = 3) → (cr = 0 → n ≤ mo + 1) → t ≠ 2 → t ≠ 3 → ¬ x9 = 0)
    (hF : (¬ (fr = 0 ∧ (si = 0 ∨ si = 3) ∧ (cr = 0 → n ≤ mo + 1) ∧ t ≠ 2 ∧ t ≠ 3)) → x9 = 0) :
    wL_lawOf_237 (fun r _ => r = 1) mc ms p l 1 x9 kc ks sh ho p 1 al kn ex a1 a2 a3 a4 a5 a6 a7 a8 a9 a10 a11 a12 a13 a14 := by
  unfold wL_lawOf_237
  exact ⟨(sy_Pn hp).2.2.2.2.1, nm_r (sy_Pn hp).2.2.2.1 (sy_cho1 hp hfr hsi hcr hmo ht h1 h3 h5 h6 h7 (fun x y z w q a => br_f (hT x y z w q) sy_267a) (fun z a => br_t (hF z) sy_267a))⟩
theorem sy_222a {x9 : Int32} {fr si cr mo t : Nat} (hp : sy_P n p v l c) (hfr : fr ≤ 2) (hsi : si ≤ 3) (hcr : cr ≤ 2) (hmo : mo ≤ 3) (ht : t ≤ 4)
    (h1 : a1 0 = nI fr) (h3 : a3 0 = nI si) (h5 : a5 0 = nI cr) (h6 : a6 0 = nI mo) (h7 : a7 0 = nI t)
    (hT : fr = 0 → (si = 0 ∨ si = 3) → (cr = 0 → n ≤ mo + 1) → ¬ x9 = 0)
    (hF : (¬ (fr = 0 ∧ (si = 0 ∨ si = 3) ∧ (cr = 0 → n ≤ mo + 1))) → x9 = 0) :
    wL_lawOf_222 (fun r _ => r = 1) mc ms (nI t) p l 1 x9 kc ks sh ho p 1 al kn ex a1 a2 a3 a4 a5 a6 a7 a8 a9 a10 a11 a12 a13 a14 := by
  unfold wL_lawOf_222 wL_lawOf_234
  refine pk_eq t 2 (fun e => ?_) (fun e2 => pk_eq t 3 (fun e => ?_) (fun e3 => ?_))
  · exact sy_237a hp hfr hsi hcr hmo ht h1 h3 h5 h6 h7 (fun _ _ _ z _ => absurd e z) (fun _ => rfl)
  · exact sy_237a hp hfr hsi hcr hmo ht h1 h3 h5 h6 h7 (fun _ _ _ _ z => absurd e z) (fun _ => rfl)
  · exact sy_237a hp hfr hsi hcr hmo ht h1 h3 h5 h6 h7 (fun x y z _ _ => hT x y z) (fun z => hF (fun w => z ⟨w.1, w.2.1, w.2.2, e2, e3⟩))
theorem sy_204a {z0 : Int32} {fr si cc t : Nat} (hp : sy_P n p v l c) (hfr : fr ≤ 2) (hsi : si ≤ 3) (hcc : cc ≤ 11) (ht : t ≤ 4)
    (h1 : a1 0 = nI fr) (h3 : a3 0 = nI si) (h5 : a5 0 = nI (cc / 4)) (h6 : a6 0 = nI (cc % 4)) (h7 : a7 0 = nI t)
    (hT : fr = 0 → (si = 0 ∨ si = 3) → ¬ z0 = 0) (hF : (¬ (fr = 0 ∧ (si = 0 ∨ si = 3))) → z0 = 0) :
    wL_lawOf_204 (fun r _ => r = 1) mc ms (nI cc) (nI t) p l 1 z0 kc ks sh ho p 1 al kn ex a1 a2 a3 a4 a5 a6 a7 a8 a9 a10 a11 a12 a13 a14 := by
  have hn := sy_Pn hp
  have hc1 : p - 1 = nI (n - 1) := by
    obtain ⟨k, hk⟩ : ∃ k, n = k + 1 := ⟨n - 1, by omega⟩
    rw [hn.2.2.1, hk, nI_pred]
    rfl
  have hcr : cc / 4 ≤ 2 := by omega
  have hmo : cc % 4 ≤ 3 := by omega
  unfold wL_lawOf_204
  refine pk_le 4 cc (fun g => ?_) (fun g => pk_le (n - 1) cc (fun g' => ?_) (fun g' => ?_) hc1)
  · exact sy_222a hp hfr hsi hcr hmo ht h1 h3 h5 h6 h7 (fun x y _ => hT x y) (fun z => hF (fun w => z ⟨w.1, w.2, fun u => by omega⟩))
  · exact sy_222a hp hfr hsi hcr hmo ht h1 h3 h5 h6 h7 (fun x y _ => hT x y) (fun z => hF (fun w => z ⟨w.1, w.2, fun u => by omega⟩))
  · exact sy_222a hp hfr hsi hcr hmo ht h1 h3 h5 h6 h7 (fun _ _ z => absurd (z (by omega)) (by omega)) (fun _ => rfl)
theorem sy_160a {m s cc t : Nat} (hp : sy_P n p v l c) (hm : m ≤ 8) (hs : s ≤ 15) (hcc : cc ≤ 11) (ht : t ≤ 4) :
    wL_lawOf_160 (fun r _ => r = 1) mc ms (nI m) (nI s) (nI cc) (nI t) p l 1 kc ks sh ho p 0 al kn ex a1 a2 a3 a4 a5 a6 a7 a8 a9 a10 a11 a12 a13 a14 := by
  unfold wL_lawOf_160
  have e1 : upd a1 0 (nI m / 3) 0 = nI (m / 3) := pk_us.trans (pk_div (d := 3) (by omega) (by omega) (by omega))
  have e3 : upd a3 0 (nI s >>> ((2 : Int32) &&& 31)) 0 = nI (s / 4) := pk_us.trans (pk_shrN (by omega) _ 2 (by decide))
  have e5 : upd a5 0 (nI cc >>> ((2 : Int32) &&& 31)) 0 = nI (cc / 4) := pk_us.trans (pk_shrN (by omega) _ 2 (by decide))
  have e6 : upd a6 0 (nI cc &&& 3) 0 = nI (cc % 4) := pk_us.trans (pk_andN (by omega) 2 (by decide))
  have e7 : upd a7 0 (nI t) 0 = nI t := pk_us
  refine sy_add (nI_pos (by omega)) (nI_le (b := 8) hm (by decide)) (nI_pos (by omega)) (nI_le (b := 15) hs (by decide)) (nI_pos (by omega)) (nI_le (b := 11) hcc (by decide)) (nI_pos (by omega)) (nI_le (b := 4) ht (by decide)) (br_t rfl (br_t rfl ?_))
  unfold wL_lawOf_203 wL_lawOf_199
  have hfr : m / 3 ≤ 2 := by omega
  have hsi : s / 4 ≤ 3 := by omega
  refine pk_le 3 m (fun g => ?_) (fun g => pk_lt s 4 (fun g2 => ?_) (fun g2 => pk_le s 11 (fun g3 => ?_) (fun g3 => ?_)))
  · exact sy_204a hp hfr hsi hcc ht e1 e3 e5 e6 e7 (fun z => absurd z (by omega)) (fun _ => rfl)
  · exact sy_204a hp hfr hsi hcc ht e1 e3 e5 e6 e7 (fun _ _ => by decide) (fun z => absurd ⟨by omega, by omega⟩ z)
  · exact sy_204a hp hfr hsi hcc ht e1 e3 e5 e6 e7 (fun _ z => absurd z (by omega)) (fun _ => rfl)
  · exact sy_204a hp hfr hsi hcc ht e1 e3 e5 e6 e7 (fun _ _ => by decide) (fun z => absurd ⟨by omega, by omega⟩ z)
theorem sy_105 {x1 x2 x3 x4 : Int32} (hp : sy_P n p v l c) (h : x1 < 0 ∨ (¬ x1 < 0 ∧ ¬ x1 ≤ 8)) :
    wL_lawOf_105 (fun r _ => r = 1) mc ms x1 x2 x3 x4 p l kc ks sh ho p 0 al kn ex a1 a2 a3 a4 a5 a6 a7 a8 a9 a10 a11 a12 a13 a14 := by
  unfold wL_lawOf_105
  refine sy_160b hp (by decide) (fun post hq => ?_)
  unfold wpX_addRule
  dsimp only
  rcases h with h | ⟨h, k⟩
  · exact br_t h hq
  · exact br_f h (br_f k hq)
theorem sy_121 {x1 x2 x3 x4 : Int32} (hp : sy_P n p v l c) (b1 : ¬ x1 < 0) (c1 : x1 ≤ 8) (h : x2 < 0 ∨ (¬ x2 < 0 ∧ ¬ x2 ≤ 15)) :
    wL_lawOf_121 (fun r _ => r = 1) mc ms x1 x2 x3 x4 p l kc ks sh ho p 0 al kn ex a1 a2 a3 a4 a5 a6 a7 a8 a9 a10 a11 a12 a13 a14 := by
  unfold wL_lawOf_121
  refine sy_160b hp (by decide) (fun post hq => ?_)
  unfold wpX_addRule
  dsimp only
  refine br_f b1 (br_t c1 ?_)
  rcases h with h | ⟨h, k⟩
  · exact br_t h hq
  · exact br_f h (br_f k hq)
theorem sy_138 {x1 x2 x3 x4 : Int32} (hp : sy_P n p v l c) (b1 : ¬ x1 < 0) (c1 : x1 ≤ 8) (b2 : ¬ x2 < 0) (c2 : x2 ≤ 15) (h : x3 < 0 ∨ (¬ x3 < 0 ∧ ¬ x3 ≤ 11)) :
    wL_lawOf_138 (fun r _ => r = 1) mc ms x1 x2 x3 x4 p l kc ks sh ho p 0 al kn ex a1 a2 a3 a4 a5 a6 a7 a8 a9 a10 a11 a12 a13 a14 := by
  unfold wL_lawOf_138
  refine sy_160b hp (by decide) (fun post hq => ?_)
  unfold wpX_addRule
  dsimp only
  refine br_f b1 (br_t c1 (br_f b2 (br_t c2 ?_)))
  rcases h with h | ⟨h, k⟩
  · exact br_t h hq
  · exact br_f h (br_f k hq)
theorem sy_156 {x1 x2 x3 x4 : Int32} (hp : sy_P n p v l c) (b1 : ¬ x1 < 0) (c1 : x1 ≤ 8) (b2 : ¬ x2 < 0) (c2 : x2 ≤ 15) (b3 : ¬ x3 < 0) (c3 : x3 ≤ 11) (h : x4 < 0 ∨ (¬ x4 < 0 ∧ ¬ x4 ≤ 4)) :
    wL_lawOf_156 (fun r _ => r = 1) mc ms x1 x2 x3 x4 p l kc ks sh ho p 0 al kn ex a1 a2 a3 a4 a5 a6 a7 a8 a9 a10 a11 a12 a13 a14 := by
  unfold wL_lawOf_156
  refine sy_160b hp (by decide) (fun post hq => ?_)
  unfold wpX_addRule
  dsimp only
  refine br_f b1 (br_t c1 (br_f b2 (br_t c2 (br_f b3 (br_t c3 ?_)))))
  rcases h with h | ⟨h, k⟩
  · exact br_t h hq
  · exact br_f h (br_f k hq)
theorem sy_68 {x1 x2 x3 x4 : Int32} (hp : sy_P n p v l c) :
    wL_lawOf_68 (fun r _ => r = 1) mc ms x1 x2 x3 x4 p l kc ks sh ho p 0 al kn ex a1 a2 a3 a4 a5 a6 a7 a8 a9 a10 a11 a12 a13 a14 := by
  unfold wL_lawOf_68 wpX_processes
  dsimp only
  refine br_t rfl (sy_lim hp (br_t rfl ?_))
  refine br_c (fun h => sy_105 hp (Or.inl h)) (fun b1 => br_c (fun c1 => ?_) (fun k => sy_105 hp (Or.inr ⟨b1, k⟩)))
  refine br_c (fun h => sy_121 hp b1 c1 (Or.inl h)) (fun b2 => br_c (fun c2 => ?_) (fun k => sy_121 hp b1 c1 (Or.inr ⟨b2, k⟩)))
  refine br_c (fun h => sy_138 hp b1 c1 b2 c2 (Or.inl h)) (fun b3 => br_c (fun c3 => ?_) (fun k => sy_138 hp b1 c1 b2 c2 (Or.inr ⟨b3, k⟩)))
  refine br_c (fun h => sy_156 hp b1 c1 b2 c2 b3 c3 (Or.inl h)) (fun b4 => br_c (fun c4 => ?_) (fun k => sy_156 hp b1 c1 b2 c2 b3 c3 (Or.inr ⟨b4, k⟩)))
  obtain ⟨m, hm, rfl⟩ := nI_of2 (n := 8) (by decide) b1 c1
  obtain ⟨s, hs, rfl⟩ := nI_of2 (n := 15) (by decide) b2 c2
  obtain ⟨cc, hcc, rfl⟩ := nI_of2 (n := 11) (by decide) b3 c3
  obtain ⟨t, ht, rfl⟩ := nI_of2 (n := 4) (by decide) b4 c4
  exact sy_160a hp hm hs hcc ht
theorem sy_31 {x1 x2 x3 x4 : Int32} (hp : sy_P n p v l c) :
    wL_lawOf_31 (fun r _ => r = 1) mc ms x1 x2 x3 x4 p kc ks sh ho p 0 al kn ex a1 a2 a3 a4 a5 a6 a7 a8 a9 a10 a11 a12 a13 a14 := by
  unfold wL_lawOf_31
  have H := hp
  rcases hp with ⟨rfl, rfl, rfl, rfl, rfl⟩ | ⟨rfl, rfl, rfl, rfl, rfl⟩ | ⟨rfl, rfl, rfl, rfl, rfl⟩ | ⟨rfl, rfl, rfl, rfl, rfl⟩
  · exact br_t rfl (sy_68 H)
  · exact br_f (by decide) (br_t rfl (sy_68 H))
  · exact br_f (by decide) (br_f (by decide) (br_t rfl (sy_68 H)))
  · exact br_f (by decide) (br_f (by decide) (br_f (by decide) (sy_68 H)))
theorem sy_of {x : Int32} (h1 : 1 ≤ x) (h4 : x ≤ 4) : ∃ n v l c, sy_P n x v l c := by
  have h0 : ¬ x < 0 := by
    intro z
    rw [Int32.lt_iff_toInt_lt] at z
    rw [Int32.le_iff_toInt_le] at h1
    have e0 : (0 : Int32).toInt = 0 := by decide
    have e1 : (1 : Int32).toInt = 1 := by decide
    omega
  obtain ⟨j, hj, rfl⟩ := nI_of2 (n := 4) (by decide) h0 h4
  have hj1 : 1 ≤ j := by
    rcases Nat.lt_or_ge 0 j with z | z
    · exact z
    · exact absurd h1 (nI_ge (a := j) (b := 1) (by omega) (by decide))
  rcases (show j = 1 ∨ j = 2 ∨ j = 3 ∨ j = 4 by omega) with rfl | rfl | rfl | rfl
  · exact ⟨1, 3, 18, 9, Or.inl ⟨rfl, rfl, rfl, rfl, rfl⟩⟩
  · exact ⟨2, 9, 81, 54, Or.inr (Or.inl ⟨rfl, rfl, rfl, rfl, rfl⟩)⟩
  · exact ⟨3, 27, 324, 243, Or.inr (Or.inr (Or.inl ⟨rfl, rfl, rfl, rfl, rfl⟩))⟩
  · exact ⟨4, 81, 1215, 972, Or.inr (Or.inr (Or.inr ⟨rfl, rfl, rfl, rfl, rfl⟩))⟩
theorem sy_22 {x x1 x2 x3 x4 : Int32} (h1 : 1 ≤ x) (h4 : x ≤ 4) :
    wL_lawOf_22 (fun r _ => r = 1) mc ms x1 x2 x3 x4 x kc ks sh ho x 0 al kn ex a1 a2 a3 a4 a5 a6 a7 a8 a9 a10 a11 a12 a13 a14 := by
  obtain ⟨n, v, l, c, hp⟩ := sy_of h1 h4
  unfold wL_lawOf_22
  exact br_t h4 (sy_31 hp)
theorem sy_22m {x x1 x2 x3 x4 : Int32} (h4 : ¬ x ≤ 4) :
    wL_lawOf_22 (fun r _ => r = 1) mc ms x1 x2 x3 x4 x kc ks sh ho 4 0 al kn ex a1 a2 a3 a4 a5 a6 a7 a8 a9 a10 a11 a12 a13 a14 := by
  obtain ⟨n, v, l, c, hp⟩ := sy_of (x := 4) (by decide) (by decide)
  unfold wL_lawOf_22
  exact br_f h4 (sy_31 hp)
end
theorem sy_law (p0 p1 p2 p3 p4 : Int32) : wpL_lawOf (fun r _ => r = 1) 15 1020 () p0 p1 p2 p3 p4 := by
  unfold wpL_lawOf
  refine ⟨by decide, by decide, 14, 999, by decide, by decide, ?_⟩
  unfold wpX_init
  dsimp only
  refine ⟨by decide, by decide, by decide, by decide, by decide, by decide, by decide, by decide, by decide, by decide, by decide, by decide, by decide, by decide, by decide, by decide, by decide, by decide, by decide, by decide, by decide, by decide, by decide, by decide, by decide, by decide, by decide, by decide, ?_⟩
  unfold wX_init_126
  refine br_c (fun h1 => br_c (fun h4 => br_t h1 (sy_22 h1 h4)) (fun h4 => br_t h1 (sy_22m h4))) (fun h1 => br_t (by decide) (br_f h1 (sy_22 (by decide) (by decide))))
theorem sy_cell {post : Int32 → Prop} {L : Nat} {xs : Nat → Int32} {k : Nat} (hL : L ≤ 5) (hk : k ≤ 5) (h : ∀ r, post r) : wpL_cellAt post L xs () (nI k) := by
  unfold wpL_cellAt
  exact pk_le L k (fun _ => h _) (fun g => ⟨pk_in k L g, h _⟩)
theorem i_vc (xs : Nat → Int32) (L : Nat) (hL : L ≤ 5) : wpL_law (fun r => r = 1) L xs := by
  unfold wpL_law
  exact sy_cell (k := 0) hL (by decide) (fun r1 => sy_cell (k := 1) hL (by decide) (fun r2 => sy_cell (k := 2) hL (by decide) (fun r3 => sy_cell (k := 3) hL (by decide) (fun r4 => sy_cell (k := 4) hL (by decide) (fun r5 => ⟨15, 1020, by decide, by decide, sy_law r1 r2 r3 r4 r5⟩)))))
end
