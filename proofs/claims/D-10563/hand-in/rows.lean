section
/-! a branch over a mirrored value: P holds of the value that the tests pick -/
theorem dr_br {α : Type} (P : α → Prop) {c A B : Prop} [hc : Decidable c] {a b : α} (ha : P a → A) (hb : P b → B) (h : P (if c then a else b)) : (c → A) ∧ (¬ c → B) := by
  by_cases e : c
  · rw [if_pos e] at h
    exact ⟨fun _ => ha h, fun n => absurd e n⟩
  · rw [if_neg e] at h
    exact ⟨fun y => absurd y e, fun _ => hb h⟩
/-! a bit of a set -/
def dr_in (x s : Int32) : Int32 := if (((x.toUInt32 >>> (s.toUInt32 &&& Int32.toUInt32 31)).toInt32) &&& 1) = 0 then 0 else 1
theorem dr_in_wp {post : Int32 → Prop} {x s : Int32} (h : post (dr_in x s)) : wpX_in post () x s :=
  dr_br post id id h
theorem dr_bit0 (s : Int32) : ((((0 : Int32).toUInt32 >>> (s.toUInt32 &&& Int32.toUInt32 31)).toInt32) &&& 1) = 0 := by
  have h : (0 : Int32).toUInt32 >>> (s.toUInt32 &&& Int32.toUInt32 31) = 0 := UInt32.zero_shiftRight
  rw [h]
  decide
theorem dr_in0 (s : Int32) : dr_in 0 s = 0 := if_pos (dr_bit0 s)
/-! neighbour -/
def dr_n72 (x2 x3 z0 : Int32) : Int32 := if z0 = 0 then (-1) else ((x2 * 4) + (x3 >>> ((1 : Int32) &&& 31)))
def dr_n45 (x2 z0 z1 : Int32) : Int32 := if x2 < 0 then dr_n72 x2 (z1 + z0) 0 else if 8 ≤ x2 then dr_n72 x2 (z1 + z0) 0 else if z1 + z0 < 0 then dr_n72 x2 (z1 + z0) 0 else if 8 ≤ z1 + z0 then dr_n72 x2 (z1 + z0) 0 else dr_n72 x2 (z1 + z0) 1
def dr_n33 (x1 x2 z0 z1 : Int32) : Int32 := if (x1 &&& 1) = 0 then dr_n45 x2 (-1) (z1 + z0) else dr_n45 x2 1 (z1 + z0)
def dr_n13 (x0 x1 z0 z1 : Int32) : Int32 := if ((x0 >>> ((2 : Int32) &&& 31)) &&& 1) = 0 then dr_n33 x1 (z1 + z0) 1 (2 * (x0 &&& 3)) else dr_n33 x1 (z1 + z0) 0 (2 * (x0 &&& 3))
def dr_nb (p0 p1 : Int32) : Int32 := if 2 ≤ p1 then dr_n13 p0 p1 1 (p0 >>> ((2 : Int32) &&& 31)) else dr_n13 p0 p1 (-1) (p0 >>> ((2 : Int32) &&& 31))
theorem dr_w72 {post : Int32 → Prop} {x2 x3 z0 : Int32} (h : post (dr_n72 x2 x3 z0)) : wX_neighbour_72 post x2 x3 z0 :=
  dr_br post id id h
theorem dr_w71 {post : Int32 → Prop} {x2 x3 : Int32} (h : post (dr_n72 x2 x3 0)) : wX_neighbour_71 post x2 x3 :=
  dr_w72 h
theorem dr_w45 {post : Int32 → Prop} {x2 z0 z1 : Int32} (h : post (dr_n45 x2 z0 z1)) : wX_neighbour_45 post x2 z0 z1 :=
  nm_e (dr_br post dr_w71 (dr_br post dr_w71 (dr_br post dr_w71 (dr_br post dr_w71 dr_w72))) h)
theorem dr_w33 {post : Int32 → Prop} {x1 x2 z0 z1 : Int32} (h : post (dr_n33 x1 x2 z0 z1)) : wX_neighbour_33 post x1 x2 z0 z1 :=
  dr_br post dr_w45 dr_w45 h
theorem dr_w13 {post : Int32 → Prop} {x0 x1 z0 z1 : Int32} (h : post (dr_n13 x0 x1 z0 z1)) : wX_neighbour_13 post x0 x1 z0 z1 :=
  nm_e (dr_br post dr_w33 dr_w33 h)
theorem dr_nb_wp {post : Int32 → Prop} {p0 p1 : Int32} (h : post (dr_nb p0 p1)) : wpX_neighbour post () p0 p1 :=
  dr_br post dr_w13 dr_w13 h
section
variable {F S K T pt ps sc tk w sn mo be : Int32} {a1 a2 a3 a4 a5 a6 : Nat → Int32}
/-! whose turn: own and their pieces, where a piece may go -/
def dr_own (F S T : Int32) : Int32 := if T = 0 then F else S
def dr_their (F S T : Int32) : Int32 := if T = 0 then S else F
def dr_cg (K T p0 p1 : Int32) : Int32 := if dr_in K p0 = 0 then (if T = 0 then (if p1 < 2 then 0 else 1) else (if 2 ≤ p1 then 0 else 1)) else 1
def dr_to (K T s d : Int32) : Int32 := if dr_cg K T s d = 0 then (-1) else dr_nb s d
theorem dr_own_wp {post : Int32 → Prop} (h : post (dr_own F S T)) : wpX_own post (F, S, K, T, pt, ps, sc, tk, w, sn, mo, be, a1, a2, a3, a4, a5, a6) :=
  dr_br post id id h
theorem dr_their_wp {post : Int32 → Prop} (h : post (dr_their F S T)) : wpX_theirs post (F, S, K, T, pt, ps, sc, tk, w, sn, mo, be, a1, a2, a3, a4, a5, a6) :=
  dr_br post id id h
theorem dr_cg_wp {post : Int32 → Prop} {p0 p1 : Int32} (h : post (dr_cg K T p0 p1)) : wpX_canGo post (F, S, K, T, pt, ps, sc, tk, w, sn, mo, be, a1, a2, a3, a4, a5, a6) p0 p1 := by
  unfold wpX_canGo
  exact dr_in_wp (dr_br post (dr_br post (dr_br post id id) (dr_br post id id)) id h)
theorem dr_to_wp (Q : Int32 → Prop) {s d : Int32} (h : Q (dr_to K T s d)) : wpX_canGo (fun r => (r = 0 → Q (-1)) ∧ (¬ r = 0 → wpX_neighbour Q () s d)) (F, S, K, T, pt, ps, sc, tk, w, sn, mo, be, a1, a2, a3, a4, a5, a6) s d :=
  dr_cg_wp (dr_br Q id dr_nb_wp h)
/-! without enemies nothing is jumped over -/
theorem dr_j18 {post : Int32 → Prop} {x1 x3 z0 : Int32} (hz : dr_their F S T = 0) (h : post (-1)) : wX_jumpTo_18 post x1 x3 0 z0 F S K T pt ps sc tk w sn mo be a1 a2 a3 a4 a5 a6 := by
  unfold wX_jumpTo_18
  refine dr_their_wp ?_
  rw [hz]
  refine nm_r (e' := (0 : Int32)) (by decide) (br_c (fun _ => h) (fun _ => dr_in_wp ?_))
  rw [dr_in0]
  exact br_t rfl h
theorem dr_jump {post : Int32 → Prop} {p0 p1 p2 : Int32} (hz : dr_their F S T = 0) (h : post (-1)) : wpX_jumpTo post (F, S, K, T, pt, ps, sc, tk, w, sn, mo, be, a1, a2, a3, a4, a5, a6) p0 p1 p2 0 := by
  unfold wpX_jumpTo
  exact dr_cg_wp (br_c (fun _ => dr_j18 hz h) (fun _ => dr_nb_wp (dr_j18 hz h)))
theorem dr_mj15 {post J : Int32 → Prop} {m : Int32} {i : Nat} (hz : m = 0 ∨ dr_their F S T = 0) (h : J (nI (i + 1))) : ∃ n, wX_mustJump_15 post J m (nI i) F S K T pt ps sc tk w sn mo be a1 a2 a3 a4 a5 a6 n 0 :=
  pk_loop (σ := Unit) (fun n d _ => wX_mustJump_15 post J m (nI i) F S K T pt ps sc tk w sn mo be a1 a2 a3 a4 a5 a6 n (nI d)) (fun _ _ => True) 4 0 () (by omega) trivial
    (fun n _ _ => pk_le 4 4 (fun _ => nm_r (nI_1 i) h) (fun z => absurd z (by omega)))
    (fun n d _ hd _ hw => pk_le 4 d (fun z => absurd z (by omega)) (fun _ => by
      rcases hz with hm | ht
      · rw [hm]
        refine dr_in_wp ?_
        rw [dr_in0]
        exact br_t rfl (nm_r (nI_1 i) h)
      · exact dr_in_wp (br_c (fun _ => nm_r (nI_1 i) h) (fun _ => dr_jump ht (br_t (by decide) (nm_r (nI_1 d) (hw () trivial)))))))
theorem dr_mj {post : Int32 → Prop} (hz : dr_own F S T = 0 ∨ dr_their F S T = 0) (h : post 0) : wpX_mustJump post (F, S, K, T, pt, ps, sc, tk, w, sn, mo, be, a1, a2, a3, a4, a5, a6) := by
  unfold wpX_mustJump
  exact dr_own_wp (pk_loop (σ := Unit) (fun n i _ => wX_mustJump_7 post (dr_own F S T) F S K T pt ps sc tk w sn mo be a1 a2 a3 a4 a5 a6 n (nI i)) (fun _ _ => True) 32 0 () (by omega) trivial
    (fun n _ _ => pk_le 32 32 (fun _ => h) (fun z => absurd z (by omega)))
    (fun n i _ hi _ hw => pk_le 32 i (fun z => absurd z (by omega)) (fun _ => dr_mj15 hz (hw () trivial))))
/-! no bits: none are counted -/
theorem dr_ones {post : Int32 → Prop} (h : post 0) : wpX_ones post () 0 :=
  pk_loop (σ := Unit) (fun n i _ => wX_ones_4 post 0 n 0 (nI i)) (fun _ _ => True) 32 0 () (by omega) trivial
    (fun n _ _ => pk_le 32 32 (fun _ => h) (fun z => absurd z (by omega)))
    (fun n i _ hi _ hw => pk_le 32 i (fun z => absurd z (by omega)) (fun _ => nm_r (e' := (0 : Int32)) (by rw [dr_bit0]; decide) (nm_r (nI_1 i) (hw () trivial))))
/-! a step is met -/
theorem dr_meet {post : Int32 → St2 → Prop} (h1 : sn + 1 - 1 = w → ∀ b, post 1 (F, S, K, T, pt, ps, sc, 0, w, sn + 1, 0, b, a1, a2, a3, a4, a5, a6)) (h0 : ¬ sn + 1 - 1 = w → ∀ b, post 0 (F, S, K, T, pt, ps, sc, 0, w, sn + 1, 0, b, a1, a2, a3, a4, a5, a6)) : wpX_meet post (F, S, K, T, pt, ps, sc, 0, w, sn, 0, be, a1, a2, a3, a4, a5, a6) :=
  nm_e (dr_ones (br_t (by decide) (nm_e (br_c (fun e => h1 e _) (fun e => h0 e _)))))
end
end
section
/-! how many steps: of a place to go to; of a direction; of the directions below i -/
def dr_okz (F S z : Int32) : Nat := if z < 0 then 0 else if dr_in (F ||| S) z = 0 then 1 else 0
def dr_cnt (F S K T s : Int32) : Nat → Nat
  | 0 => 0
  | i + 1 => dr_cnt F S K T s i + dr_okz F S (dr_to K T s (nI i))
theorem dr_okz_le (F S z : Int32) : dr_okz F S z ≤ 1 := by
  unfold dr_okz
  split
  · omega
  · split <;> omega
theorem dr_cnt_le (F S K T s : Int32) (i : Nat) : dr_cnt F S K T s i ≤ i := by
  induction i with
  | zero => exact Nat.le_refl 0
  | succ i ih =>
    have h := dr_okz_le F S (dr_to K T s (nI i))
    show dr_cnt F S K T s i + dr_okz F S (dr_to K T s (nI i)) ≤ i + 1
    omega
theorem dr_cnt_add (F S K T s : Int32) (i k : Nat) : dr_cnt F S K T s i ≤ dr_cnt F S K T s (i + k) := by
  induction k with
  | zero => exact Nat.le_refl _
  | succ k ih =>
    refine Nat.le_trans ih ?_
    show dr_cnt F S K T s (i + k) ≤ dr_cnt F S K T s (i + k) + dr_okz F S (dr_to K T s (nI (i + k)))
    omega
theorem dr_cnt_4 {F S K T s : Int32} {i : Nat} (hi : i < 4) : dr_cnt F S K T s (i + 1) ≤ dr_cnt F S K T s 4 := by
  have h := dr_cnt_add F S K T s (i + 1) (3 - i)
  rw [show i + 1 + (3 - i) = 4 by omega] at h
  exact h
theorem dr_back (c : Nat) : nI c + 1 - 1 = nI c := by
  rw [nI_1]
  exact nI_pred c
section
variable {post : Int32 → St2 → Prop} {F S K T pt ps sc tk w sn be : Int32} {a1 a2 a3 a4 a5 a6 : Nat → Int32}
theorem dr_ms25 {J : Int32 → Int32 → Int32 → Int32 → Int32 → Int32 → Int32 → Int32 → Int32 → Int32 → Int32 → Int32 → Int32 → (Nat → Int32) → (Nat → Int32) → (Nat → Int32) → (Nat → Int32) → (Nat → Int32) → (Nat → Int32) → Prop} {x1 x2 z : Int32}
    (h0 : dr_okz F S z = 0 → J (x2 + 1) F S K T pt ps sc tk w sn 0 be a1 a2 a3 a4 a5 a6)
    (h1 : dr_okz F S z = 1 → ¬ sn + 1 - 1 = w → ∀ b a, a 0 = a2 0 → J (x2 + 1) F S K T pt ps 2 0 w (sn + 1) 0 b a1 a a3 a4 a5 a6)
    (h2 : dr_okz F S z = 1 → sn + 1 - 1 = w → ∀ b a, a 0 = a2 0 → post 1 (F, S, K, T, pt, ps, 2, 0, w, sn + 1, 0, b, a1, a, a3, a4, a5, a6)) :
    wX_meetSteps_25 post J x1 x2 z F S K T pt ps sc tk w sn 0 be a1 a2 a3 a4 a5 a6 := by
  unfold wX_meetSteps_25
  refine br_c (fun hz => nm_e (h0 (if_pos hz))) (fun hz => dr_in_wp (br_c (fun hi => nm_e ?_) (fun hi => nm_e (h0 ?_))))
  · have ho : dr_okz F S z = 1 := (if_neg hz).trans (if_pos hi)
    have ha : ∀ v, upd a2 1 v 0 = a2 0 := fun v => pk_un (by decide)
    exact dr_meet (fun e b => br_f (by decide) (h2 ho e b _ (ha _))) (fun e b => br_t rfl (nm_e (h1 ho e b _ (ha _))))
  · exact (if_neg hz).trans (if_neg hi)
theorem dr_ms {s : Int32} (hsn : sn = nI 0)
    (H0 : (∀ j, j < dr_cnt F S K T s 4 → ¬ w = nI j) → ∀ sc' tk' b a, a 0 = a2 0 → post 0 (F, S, K, T, pt, ps, sc', tk', w, nI (dr_cnt F S K T s 4), 0, b, a1, a, a3, a4, a5, a6))
    (H1 : (∃ j, j < dr_cnt F S K T s 4 ∧ w = nI j) → ∀ n b a, a 0 = a2 0 → post 1 (F, S, K, T, pt, ps, 2, 0, w, n, 0, b, a1, a, a3, a4, a5, a6)) :
    wpX_meetSteps post (F, S, K, T, pt, ps, sc, tk, w, sn, 0, be, a1, a2, a3, a4, a5, a6) s := by
  refine pk_loop (σ := Int32 × Int32 × Int32 × Int32 × (Nat → Int32)) (fun n i q => wX_meetSteps_2 post s n (nI i) F S K T pt ps q.1 q.2.1 w q.2.2.1 0 q.2.2.2.1 a1 q.2.2.2.2 a3 a4 a5 a6)
    (fun i q => q.2.2.1 = nI (dr_cnt F S K T s i) ∧ (∀ j, j < dr_cnt F S K T s i → ¬ w = nI j) ∧ q.2.2.2.2 0 = a2 0) 4 0 (sc, tk, sn, be, a2) (by omega) ⟨hsn, fun j hj => absurd hj (Nat.not_lt_zero j), rfl⟩ ?_ ?_
  · rintro n ⟨c, t, m, b, a⟩ ⟨e1, e2, e3⟩
    dsimp only at e1 e3
    subst e1
    exact pk_le 4 4 (fun _ => H0 e2 c t b a e3) (fun z => absurd z (by omega))
  · rintro n i ⟨c, t, m, b, a⟩ hi ⟨e1, e2, e3⟩ hw
    dsimp only at e1 e3
    subst e1
    have hb := dr_back (dr_cnt F S K T s i)
    have h4 := dr_cnt_4 (F := F) (S := S) (K := K) (T := T) (s := s) hi
    have hc : dr_cnt F S K T s (i + 1) = dr_cnt F S K T s i + dr_okz F S (dr_to K T s (nI i)) := rfl
    refine pk_le 4 i (fun z => absurd z (by omega)) (fun _ => ?_)
    refine dr_to_wp (fun z => wX_meetSteps_25 post (wX_meetSteps_2 post s n) s (nI i) z F S K T pt ps c t w (nI (dr_cnt F S K T s i)) 0 b a1 a a3 a4 a5 a6) ?_
    refine dr_ms25 (fun ho => ?_) (fun ho hn b' a' ha => ?_) (fun ho he b' a' ha => ?_)
    · rw [ho] at hc
      have t := hw (c, t, nI (dr_cnt F S K T s i), b, a) ⟨by rw [hc]; rfl, by rw [hc]; exact e2, e3⟩
      rw [nI_1]
      exact t
    · rw [ho] at hc
      rw [hb] at hn
      have t := hw (2, 0, nI (dr_cnt F S K T s i) + 1, b', a') ⟨by rw [hc]; exact nI_1 _, ?_, ha.trans e3⟩
      · rw [nI_1 i]
        exact t
      · rw [hc]
        intro j hj
        by_cases ej : j = dr_cnt F S K T s i
        · rw [ej]
          exact fun z => hn z.symm
        · exact e2 j (by omega)
    · rw [hb] at he
      exact H1 ⟨dr_cnt F S K T s i, by omega, he.symm⟩ _ b' a' (ha.trans e3)
end
end
section
theorem dr_b8 : ∀ i, i < 32 → (nI i).toInt8.toInt32 = nI i := by decide +kernel
/-- the own pieces: one, on square q, or (q = 32) none; D steps -/
def dr_one (F S K T : Int32) (q D : Nat) : Prop := q ≤ 32 ∧ (dr_own F S T = 0 ∨ dr_their F S T = 0) ∧ (∀ i, i < 32 → i ≠ q → dr_in (dr_own F S T) (nI i) = 0) ∧ (q < 32 → ¬ dr_in (dr_own F S T) (nI q) = 0) ∧ (q < 32 → D = dr_cnt F S K T (nI q) 4) ∧ (q = 32 → D = 0)
section
variable {post : Int32 → St2 → Prop} {F S K T pt ps sc tk w sn mo be : Int32} {a1 a2 a3 a4 a5 a6 : Nat → Int32} {q D : Nat}
theorem dr_one_le (o : dr_one F S K T q D) : D ≤ 4 := by
  obtain ⟨o1, o2, o3, o4, o5, o6⟩ := o
  by_cases h : q < 32
  · rw [o5 h]
    exact dr_cnt_le F S K T (nI q) 4
  · rw [o6 (by omega)]
    omega
theorem dr_seek {k : Int32} (o : dr_one F S K T q D)
    (H0 : (∀ j, j < D → ¬ k = nI j) → ∀ sc' tk' b a, post 0 (F, S, K, T, pt, ps, sc', tk', k, nI D, 0, b, a1, a, a3, a4, a5, a6))
    (H1 : q < 32 → (∃ j, j < D ∧ k = nI j) → ∀ n b a, a 0 = nI q → post 1 (F, S, K, T, pt, ps, 2, 0, k, n, 0, b, a1, a, a3, a4, a5, a6)) :
    wpX_seek post (F, S, K, T, pt, ps, sc, tk, w, sn, mo, be, a1, a2, a3, a4, a5, a6) k := by
  obtain ⟨o1, o2, o3, o4, o5, o6⟩ := o
  unfold wpX_seek
  refine dr_mj o2 (dr_own_wp ?_)
  refine pk_loop (σ := Int32 × Int32 × Int32 × Int32 × (Nat → Int32)) (fun n i u => wX_seek_33 post 0 (dr_own F S T) n (nI i) F S K T pt ps u.1 u.2.1 k u.2.2.1 0 u.2.2.2.1 a1 u.2.2.2.2 a3 a4 a5 a6)
    (fun i u => (i ≤ q → u.2.2.1 = nI 0) ∧ (q < i → u.2.2.1 = nI D ∧ ∀ j, j < D → ¬ k = nI j)) 32 0 (sc, tk, 0, 0, a2) (by omega) ⟨fun _ => rfl, fun z => absurd z (Nat.not_lt_zero q)⟩ ?_ ?_
  · rintro n ⟨c, t, m, b, a⟩ ⟨e1, e2⟩
    dsimp only at e1 e2
    refine pk_le 32 32 (fun _ => ?_) (fun z => absurd z (by omega))
    by_cases hq : q < 32
    · obtain ⟨e3, e4⟩ := e2 hq
      rw [e3]
      exact H0 e4 c t b a
    · have hD : D = 0 := o6 (by omega)
      have em : m = nI D := by
        rw [hD]
        exact e1 (by omega)
      rw [em]
      exact H0 (fun j hj => absurd hj (by omega)) c t b a
  · rintro n i ⟨c, t, m, b, a⟩ hi ⟨e1, e2⟩ hw
    dsimp only at e1 e2
    refine pk_le 32 i (fun z => absurd z (by omega)) (fun _ => dr_in_wp ?_)
    by_cases hq : i = q
    · subst hq
      refine br_f (o4 hi) (nm_e (br_t rfl ?_))
      have ha : ∀ a' : Nat → Int32, a' 0 = upd a 0 (nI i).toInt8.toInt32 0 → a' 0 = nI i := fun a' h => by rw [h, pk_us, dr_b8 i hi]
      refine dr_ms (e1 (Nat.le_refl i)) (fun hn c' t' b' a' h => ?_) (fun he m' b' a' h => ?_)
      · rw [← o5 hi] at hn ⊢
        have t := hw (c', t', nI D, b', a') ⟨fun z => absurd z (by omega), fun _ => ⟨rfl, hn⟩⟩
        exact br_t rfl (nm_r (nI_1 i) t)
      · rw [← o5 hi] at he
        exact br_f (by decide) (H1 hi he m' b' a' (ha a' h))
    · rw [o3 i hi hq]
      have t := hw (c, t, m, b, a) ⟨fun z => e1 (by omega), fun z => e2 (by omega)⟩
      exact br_t rfl (nm_r (nI_1 i) t)
/-! the calls of the law -/
theorem dr_moves (o : dr_one F S K T q D) (H : ∀ sc' tk' w' sn' mo' b a, post (nI D) (F, S, K, T, pt, ps, sc', tk', w', sn', mo', b, a1, a, a3, a4, a5, a6)) :
    wpX_moves post (F, S, K, T, pt, ps, sc, tk, w, sn, mo, be, a1, a2, a3, a4, a5, a6) := by
  have h4 := dr_one_le o
  unfold wpX_moves
  refine dr_seek o (fun _ c t b a => H c t _ _ _ b a) (fun _ he => ?_)
  obtain ⟨j, hj, e⟩ := he
  have hn : nI j < 0 := by
    rw [← e]
    decide
  exact absurd hn (nI_pos (by omega))
theorem dr_path (o : dr_one F S K T q D) (H : ∀ sc' tk' w' sn' mo' b a, post (if D = 0 then (-1) else nI q) (F, S, K, T, pt, ps, sc', tk', w', sn', mo', b, a1, a, a3, a4, a5, a6)) :
    wpX_path post (F, S, K, T, pt, ps, sc, tk, w, sn, mo, be, a1, a2, a3, a4, a5, a6) 0 0 := by
  refine br_f (by decide) (dr_seek o (fun hn c t b a => br_t rfl ?_) (fun hq he n b a ha => br_f (by decide) (br_f (by decide) (br_f (by decide) ⟨pk_in 0 12 (by omega), ?_⟩))))
  · have hD : D = 0 := by
      rcases Nat.eq_zero_or_pos D with z | z
      · exact z
      · exact absurd rfl (hn 0 z)
    have h := H c t 0 (nI D) 0 b a
    rw [if_pos hD] at h
    exact h
  · obtain ⟨j, hj, _⟩ := he
    have h := H 2 0 0 n 0 b a
    rw [if_neg (show ¬ D = 0 by omega), ← ha] at h
    exact h
theorem dr_stops {post : Int32 → Prop} {p0 p1 : Int32} (h0 : post 0) (h1 : post 1) : wpX_stops post (F, S, K, T, pt, ps, sc, tk, w, sn, mo, be, a1, a2, a3, a4, a5, a6) p0 p1 := by
  unfold wpX_stops
  exact dr_in_wp (br_c (fun _ => br_c (fun _ => br_c (fun _ => h1) (fun _ => h0)) (fun _ => br_c (fun _ => h1) (fun _ => h0))) (fun _ => h0))
theorem dr_carry (H : ∀ F S K T pt ps sc tk w sn mo be a1 a2 a3 a4 a5 a6, post 0 (F, S, K, T, pt, ps, sc, tk, w, sn, mo, be, a1, a2, a3, a4, a5, a6)) : wpX_carry post (F, S, K, T, pt, ps, 2, 0, w, sn, mo, be, a1, a2, a3, a4, a5, a6) := by
  have h173 : ∀ z0 z1 F S K T, wX_carry_173 post z0 z1 F S K T pt ps 2 0 w sn mo be a1 a2 a3 a4 a5 a6 := fun z0 z1 F S K T =>
    nm_e (nm_e (dr_ones (H _ _ _ _ _ _ _ _ _ _ _ _ _ _ _ _ _ _)))
  have h154 : ∀ x3 x4 z0 z1 F S K T, wX_carry_154 post x3 x4 z0 z1 F S K T pt ps 2 0 w sn mo be a1 a2 a3 a4 a5 a6 := fun x3 x4 z0 z1 F S K T =>
    nm_e (br_c (fun _ => h173 _ _ _ _ _ _) (fun _ => h173 _ _ _ _ _ _))
  have h131 : ∀ x3 x4 z0 z1 F S K T, wX_carry_131 post x3 x4 z0 z1 F S K T pt ps 2 0 w sn mo be a1 a2 a3 a4 a5 a6 := fun x3 x4 z0 z1 F S K T =>
    nm_e (br_c (fun _ => h154 _ _ _ _ _ _ _ _) (fun _ => h154 _ _ _ _ _ _ _ _))
  have h56 : ∀ x1 x2 z0 F S K T, wX_carry_56 post x1 x2 z0 F S K T pt ps 2 0 w sn mo be a1 a2 a3 a4 a5 a6 := fun x1 x2 z0 F S K T =>
    nm_e (nm_e (nm_e (nm_e (br_c (fun _ => h131 _ _ _ _ _ _ _ _) (fun _ => h131 _ _ _ _ _ _ _ _)))))
  refine nm_e ⟨pk_in 1 12 (by omega), nm_e (dr_in_wp (br_c (fun _ => ?_) (fun _ => h56 _ _ _ _ _ _ _)))⟩
  exact dr_stops (br_t rfl (h56 _ _ _ _ _ _ _)) (br_f (by decide) (h56 _ _ _ _ _ _ _))
theorem dr_rem {post : St2 → Prop} (H : ∀ pt ps a1, post (F, S, K, T, pt, ps, sc, tk, w, sn, mo, be, a1, a2, a3, a4, a5, a6)) : wpX_remember post (F, S, K, T, 0, ps, sc, tk, w, sn, mo, be, a1, a2, a3, a4, a5, a6) :=
  ⟨pk_in 0 80 (by omega), nm_e ⟨pk_in 1 80 (by omega), nm_e ⟨pk_in 2 80 (by omega), nm_e ⟨pk_in 3 80 (by omega), nm_e ⟨by decide, nm_e (br_c (fun _ => H _ _ _) (fun _ => nm_e (H _ _ _)))⟩⟩⟩⟩⟩
theorem dr_play {k : Int32} (o : dr_one F S K T q D) (H : ∀ r, r = (if k < 0 then (-1) else if nI D ≤ k then (-1) else 0) → ∀ F S K T pt ps sc tk w sn mo be a1 a2 a3 a4 a5 a6, post r (F, S, K, T, pt, ps, sc, tk, w, sn, mo, be, a1, a2, a3, a4, a5, a6)) :
    wpX_play post (F, S, K, T, 0, ps, sc, tk, w, sn, mo, be, a1, a2, a3, a4, a5, a6) k := by
  have h4 := dr_one_le o
  refine br_c (fun hk => H _ (if_pos hk).symm _ _ _ _ _ _ _ _ _ _ _ _ _ _ _ _ _ _) (fun hk => ?_)
  refine dr_seek o (fun hn c t b a => br_t rfl ?_) (fun hq he n b a ha => br_f (by decide) ?_)
  · refine H _ ?_ _ _ _ _ _ _ _ _ _ _ _ _ _ _ _ _ _ _
    obtain ⟨m, hm, e⟩ := nI_of hk
    have hD : D ≤ m := by
      rcases Nat.lt_or_ge m D with z | z
      · exact absurd e (hn m z)
      · exact z
    rw [if_neg hk, e, if_pos (nI_le hD hm)]
  · refine dr_rem (fun pt' ps' a1' => dr_carry (fun _ _ _ _ _ _ _ _ _ _ _ _ _ _ _ _ _ _ => ?_))
    refine H _ ?_ _ _ _ _ _ _ _ _ _ _ _ _ _ _ _ _ _ _
    obtain ⟨j, hj, e⟩ := he
    rw [if_neg hk, e, if_neg (nI_ge hj (by omega))]
end
end
section
theorem dr_br2 {α : Type} (P : α → Prop) {c d A B C : Prop} [hc : Decidable c] [hd : Decidable d] {a b e : α} (ha : P a → A) (hb : P b → B) (he : P e → C) (h : P (if c then a else if d then b else e)) : (c → A) ∧ (¬ c → (d → B) ∧ (¬ d → C)) :=
  dr_br P ha (dr_br P hb he) h
def dr_isq (s : Int32) : Int32 := if s < 0 then 0 else if 32 ≤ s then 0 else 1
theorem dr_isq_wp {post : Int32 → Prop} {s : Int32} (h : post (dr_isq s)) : wpX_isSquare post () s :=
  dr_br2 post id id id h
/-! what place answers, and the sets behind it -/
def dr_p33 (x2 x3 : Int32) : Int32 := if x2 = 3 then (if x3 = 0 then 0 else 1) else 1
def dr_pg (p0 p1 : Int32) : Int32 := if dr_isq p0 = 0 then 0 else if p1 < 0 then 0 else if p1 ≤ 4 then (if p1 = 1 then (if p0 >>> ((2 : Int32) &&& 31) = 7 then 0 else dr_p33 p1 (p0 >>> ((2 : Int32) &&& 31))) else dr_p33 p1 (p0 >>> ((2 : Int32) &&& 31))) else 0
def dr_bt (x1 : Int32) : Int32 := (1 : Int32) <<< (x1 &&& 31)
def dr_pF (x4 x2 : Int32) : Int32 := if x2 = 1 then (0 ||| x4) else if x2 = 2 then (0 ||| x4) else (0 &&& (x4 ^^^ (-1)))
def dr_pS (x4 x2 : Int32) : Int32 := if x2 = 3 then (0 ||| x4) else if x2 = 4 then (0 ||| x4) else (0 &&& (x4 ^^^ (-1)))
def dr_pK (x4 x2 : Int32) : Int32 := if x2 = 2 then (0 ||| x4) else if x2 = 4 then (0 ||| x4) else (0 &&& (x4 ^^^ (-1)))
def dr_sel (r x : Int32) : Int32 := if r = 0 then 0 else x
theorem dr_sel0 (x : Int32) : dr_sel 0 x = 0 := if_pos rfl
theorem dr_sel1 (x : Int32) : dr_sel 1 x = x := if_neg (by decide)
section
variable {post : Int32 → St2 → Prop} {F S K T pt ps sc tk w sn mo be : Int32} {a1 a2 a3 a4 a5 a6 : Nat → Int32}
theorem dr_pl145 {z : Int32} (h : post 1 (F, S, z, T, pt, 0, sc, tk, w, sn, mo, be, a1, a2, a3, a4, a5, a6)) : wX_place_145 post z F S K T pt ps sc tk w sn mo be a1 a2 a3 a4 a5 a6 := h
theorem dr_pl112 {x2 x4 z : Int32} (h : post 1 (F, z, dr_pK x4 x2, T, pt, 0, sc, tk, w, sn, mo, be, a1, a2, a3, a4, a5, a6)) : wX_place_112 post x2 x4 z F S 0 T pt ps sc tk w sn mo be a1 a2 a3 a4 a5 a6 :=
  dr_br2 (fun k => post 1 (F, z, k, T, pt, 0, sc, tk, w, sn, mo, be, a1, a2, a3, a4, a5, a6)) dr_pl145 dr_pl145 dr_pl145 h
theorem dr_pl79 {x2 x4 z : Int32} (h : post 1 (z, dr_pS x4 x2, dr_pK x4 x2, T, pt, 0, sc, tk, w, sn, mo, be, a1, a2, a3, a4, a5, a6)) : wX_place_79 post x2 x4 z F 0 0 T pt ps sc tk w sn mo be a1 a2 a3 a4 a5 a6 :=
  dr_br2 (fun s => post 1 (z, s, dr_pK x4 x2, T, pt, 0, sc, tk, w, sn, mo, be, a1, a2, a3, a4, a5, a6)) dr_pl112 dr_pl112 dr_pl112 h
theorem dr_pl44 {x1 x2 : Int32} (h : post 1 (dr_pF (dr_bt x1) x2, dr_pS (dr_bt x1) x2, dr_pK (dr_bt x1) x2, T, pt, 0, sc, tk, w, sn, mo, be, a1, a2, a3, a4, a5, a6)) : wX_place_44 post x1 x2 0 0 0 T pt ps sc tk w sn mo be a1 a2 a3 a4 a5 a6 :=
  nm_r (e' := dr_bt x1) rfl (dr_br2 (fun f => post 1 (f, dr_pS (dr_bt x1) x2, dr_pK (dr_bt x1) x2, T, pt, 0, sc, tk, w, sn, mo, be, a1, a2, a3, a4, a5, a6)) dr_pl79 dr_pl79 dr_pl79 h)
theorem dr_plk {p0 p1 : Int32} (P : Int32 → Prop) (h0 : P 0 → post 0 (0, 0, 0, T, pt, ps, sc, tk, w, sn, mo, be, a1, a2, a3, a4, a5, a6)) (h1 : P 1 → wX_place_44 post p0 p1 0 0 0 T pt ps sc tk w sn mo be a1 a2 a3 a4 a5 a6) (h : P (dr_pg p0 p1)) : wpX_place post (0, 0, 0, T, pt, ps, sc, tk, w, sn, mo, be, a1, a2, a3, a4, a5, a6) p0 p1 := by
  have h33 : ∀ x3, P (dr_p33 p1 x3) → wX_place_33 post p0 p1 x3 0 0 0 T pt ps sc tk w sn mo be a1 a2 a3 a4 a5 a6 := fun x3 g => dr_br P (dr_br P h0 h1) h1 g
  unfold wpX_place
  exact dr_isq_wp (dr_br P h0 (dr_br P h0 (dr_br P (fun g => nm_e (dr_br P (dr_br P h0 (h33 _)) (h33 _) g)) h0)) h)
theorem dr_place {p0 p1 : Int32} (h : post (dr_pg p0 p1) (dr_sel (dr_pg p0 p1) (dr_pF (dr_bt p0) p1), dr_sel (dr_pg p0 p1) (dr_pS (dr_bt p0) p1), dr_sel (dr_pg p0 p1) (dr_pK (dr_bt p0) p1), T, pt, 0, sc, tk, w, sn, mo, be, a1, a2, a3, a4, a5, a6)) : wpX_place post (0, 0, 0, T, pt, 0, sc, tk, w, sn, mo, be, a1, a2, a3, a4, a5, a6) p0 p1 := by
  refine dr_plk (fun r => post r (dr_sel r (dr_pF (dr_bt p0) p1), dr_sel r (dr_pS (dr_bt p0) p1), dr_sel r (dr_pK (dr_bt p0) p1), T, pt, 0, sc, tk, w, sn, mo, be, a1, a2, a3, a4, a5, a6)) (fun g => ?_) (fun g => ?_) h
  · rw [dr_sel0, dr_sel0, dr_sel0] at g
    exact g
  · rw [dr_sel1, dr_sel1, dr_sel1] at g
    exact dr_pl44 g
/-! turn: the answer, and the side -/
def dr_tw (p : Int32) : Int32 × Int32 := if p = 0 then (1, p) else if p = 1 then (1, p) else (0, 0)
theorem dr_turn {p : Int32} (h : post (dr_tw p).1 (F, S, K, (dr_tw p).2, pt, 0, sc, tk, w, sn, mo, be, a1, a2, a3, a4, a5, a6)) : wpX_turn post (F, S, K, 0, pt, 0, sc, tk, w, sn, mo, be, a1, a2, a3, a4, a5, a6) p :=
  dr_br2 (fun x : Int32 × Int32 => post x.1 (F, S, K, x.2, pt, 0, sc, tk, w, sn, mo, be, a1, a2, a3, a4, a5, a6)) id id id h
/-! at -/
def dr_a25 (F S s z : Int32) : Int32 := if dr_in F s = 0 then (if dr_in S s = 0 then 0 else 3 + z) else 1 + z
def dr_at (F S K s : Int32) : Int32 := if dr_isq s = 0 then (-1) else if dr_in K s = 0 then dr_a25 F S s 0 else dr_a25 F S s 1
theorem dr_a25_wp {post : Int32 → Prop} {s z : Int32} (h : post (dr_a25 F S s z)) : wX_at_25 post s z F S K T pt ps sc tk w sn mo be a1 a2 a3 a4 a5 a6 := by
  unfold wX_at_25
  exact dr_in_wp (dr_br post (fun g => dr_in_wp (dr_br post id id g)) id h)
theorem dr_at_wp {post : Int32 → Prop} {s : Int32} (h : post (dr_at F S K s)) : wpX_at post (F, S, K, T, pt, ps, sc, tk, w, sn, mo, be, a1, a2, a3, a4, a5, a6) s := by
  unfold wpX_at
  exact dr_isq_wp (dr_br post id (fun g => dr_in_wp (dr_br post dr_a25_wp dr_a25_wp g)) h)
end
end
section
/-! the values that the law works out -/
def dr_is (x0 : Int32) : Int32 := if x0 < 0 then 0 else if 31 < x0 then 0 else 1
def dr_row (x0 z : Int32) : Int32 := if z = 0 then 0 else x0 / 4
def dr_g115 (x1 x12 : Int32) : Int32 := if x1 = 3 then (if x12 = 0 then 0 else 1) else 1
def dr_gd (x1 x11 z : Int32) : Int32 := if x11 = 0 then 0 else if x1 < 0 then 0 else if 4 < x1 then 0 else if x1 = 1 then (if z = 7 then 0 else dr_g115 x1 z) else dr_g115 x1 z
def dr_two (x2 : Int32) : Int32 := if x2 = 0 then 1 else if x2 = 1 then 1 else 0
def dr_mov (x2 z : Int32) : Int32 := if z = 0 then 0 else x2
def dr_mine (x1 x13 z : Int32) : Int32 := if x13 = 0 then 0 else if z = 0 then (if x1 = 1 then 1 else if x1 = 2 then 1 else 0) else (if x1 = 3 then 1 else if x1 = 4 then 1 else 0)
def dr_c4 (x0 x11 : Int32) : Int32 := if x11 = 0 then 0 else x0 - x0 / 4 * 4
def dr_odd (x12 : Int32) : Int32 := if x12 - x12 / 2 * 2 = 0 then 1 else 0
def dr_wide (c : Int32) : Int32 := if c = 0 then 1 else if c = 7 then 1 else 2
def dr_up (x1 x12 : Int32) : Int32 := if 7 ≤ x12 then 0 else if x1 = 1 then 1 else if x1 = 2 then 1 else if x1 = 4 then 1 else 0
def dr_dn (x1 x12 : Int32) : Int32 := if x12 ≤ 0 then 0 else if x1 = 3 then 1 else if x1 = 2 then 1 else if x1 = 4 then 1 else 0
def dr_d320 (x18 x20 z0 : Int32) : Int32 := if x20 = 0 then z0 + 0 else z0 + x18
def dr_d302 (x16 x18 x19 z0 : Int32) : Int32 := if x16 = 0 then 0 else if x19 = 0 then dr_d320 x18 z0 0 else dr_d320 x18 z0 x18
/-- the law's due, of square, piece, is, row, good, mover -/
def dr_due (x0 x1 x11 x12 x13 m : Int32) : Int32 := dr_d302 (dr_mine x1 x13 m) (dr_wide (2 * dr_c4 x0 x11 + dr_odd x12)) (dr_up x1 x12) (dr_dn x1 x12)
section
variable {post : Int32 → St0 → Prop} {mc ms kc ks : Nat} {x0 x1 x2 x3 x5 x6 x7 x8 x9 x10 x11 x12 x13 x14 x16 x18 x19 x20 z0 z1 : Int32}
theorem dr_l415 (e : z1 = z0) (h : post 1 ()) : wL_lawOf_415 post mc ms z0 z1 kc ks := br_t e h
theorem dr_l395 (e : z1 = z0) {x21 : Int32} (e10 : x10 = if x3 < 0 then (-1) else if x21 ≤ x3 then (-1) else 0) (h : post 1 ()) : wL_lawOf_395 post mc ms x3 x10 x21 z0 z1 kc ks :=
  br_t e (dr_br2 (fun v => x10 = v) (fun g => dr_l415 g h) (fun g => dr_l415 g h) (fun g => dr_l415 g h) e10)
theorem dr_l373 {x21 : Int32} (e : z1 = z0) (e8 : x8 = x21) (e9 : x9 = if x21 ≤ 0 then (-1) else x0) (e10 : x10 = if x3 < 0 then (-1) else if x21 ≤ x3 then (-1) else 0) (h : post 1 ()) : wL_lawOf_373 post mc ms x0 x3 x8 x9 x10 x21 z0 z1 kc ks :=
  br_t e (br_t e8 (dr_br (fun v => x9 = v) (fun g => dr_l395 g e10 h) (fun g => dr_l395 g e10 h) e9))
theorem dr_l336 (e5 : x5 = x13) (e6 : x6 = x14) (e7 : x7 = if x11 = 0 then (-1) else if x13 = 0 then 0 else x1) (e8 : x8 = z0) (e9 : x9 = if z0 ≤ 0 then (-1) else x0) (e10 : x10 = if x3 < 0 then (-1) else if z0 ≤ x3 then (-1) else 0) (h : post 1 ()) : wL_lawOf_336 post mc ms x0 x1 x3 x5 x6 x7 x8 x9 x10 x11 x13 x14 z0 kc ks :=
  br_t e5 (br_t e6 (dr_br2 (fun v => x7 = v) (fun g => dr_l373 g e8 e9 e10 h) (fun g => dr_l373 g e8 e9 e10 h) (fun g => dr_l373 g e8 e9 e10 h) e7))
theorem dr_l320 (h : wL_lawOf_336 post mc ms x0 x1 x3 x5 x6 x7 x8 x9 x10 x11 x13 x14 (dr_d320 x18 x20 z0) kc ks) : wL_lawOf_320 post mc ms x0 x1 x3 x5 x6 x7 x8 x9 x10 x11 x13 x14 x18 x20 z0 kc ks :=
  dr_br (fun v => wL_lawOf_336 post mc ms x0 x1 x3 x5 x6 x7 x8 x9 x10 x11 x13 x14 v kc ks) id id h
theorem dr_l302 (h : wL_lawOf_336 post mc ms x0 x1 x3 x5 x6 x7 x8 x9 x10 x11 x13 x14 (dr_d302 x16 x18 x19 z0) kc ks) : wL_lawOf_302 post mc ms x0 x1 x3 x5 x6 x7 x8 x9 x10 x11 x13 x14 x16 x18 x19 z0 kc ks :=
  dr_br2 (fun v => wL_lawOf_336 post mc ms x0 x1 x3 x5 x6 x7 x8 x9 x10 x11 x13 x14 v kc ks) id dr_l320 dr_l320 h
theorem dr_l275 (h : wL_lawOf_302 post mc ms x0 x1 x3 x5 x6 x7 x8 x9 x10 x11 x13 x14 x16 x18 z0 (dr_dn x1 x12) kc ks) : wL_lawOf_275 post mc ms x0 x1 x3 x5 x6 x7 x8 x9 x10 x11 x12 x13 x14 x16 x18 z0 kc ks :=
  dr_br (fun v => wL_lawOf_302 post mc ms x0 x1 x3 x5 x6 x7 x8 x9 x10 x11 x13 x14 x16 x18 z0 v kc ks) id (dr_br (fun v => wL_lawOf_302 post mc ms x0 x1 x3 x5 x6 x7 x8 x9 x10 x11 x13 x14 x16 x18 z0 v kc ks) id (dr_br2 (fun v => wL_lawOf_302 post mc ms x0 x1 x3 x5 x6 x7 x8 x9 x10 x11 x13 x14 x16 x18 z0 v kc ks) id id id)) h
theorem dr_l246 (h : wL_lawOf_275 post mc ms x0 x1 x3 x5 x6 x7 x8 x9 x10 x11 x12 x13 x14 x16 z0 (dr_up x1 x12) kc ks) : wL_lawOf_246 post mc ms x0 x1 x3 x5 x6 x7 x8 x9 x10 x11 x12 x13 x14 x16 z0 kc ks :=
  dr_br (fun v => wL_lawOf_275 post mc ms x0 x1 x3 x5 x6 x7 x8 x9 x10 x11 x12 x13 x14 x16 z0 v kc ks) id (dr_br (fun v => wL_lawOf_275 post mc ms x0 x1 x3 x5 x6 x7 x8 x9 x10 x11 x12 x13 x14 x16 z0 v kc ks) id (dr_br2 (fun v => wL_lawOf_275 post mc ms x0 x1 x3 x5 x6 x7 x8 x9 x10 x11 x12 x13 x14 x16 z0 v kc ks) id id id)) h
theorem dr_l226 (h : wL_lawOf_246 post mc ms x0 x1 x3 x5 x6 x7 x8 x9 x10 x11 x12 x13 x14 x16 (dr_wide (z1 + z0)) kc ks) : wL_lawOf_226 post mc ms x0 x1 x3 x5 x6 x7 x8 x9 x10 x11 x12 x13 x14 x16 z0 z1 kc ks :=
  nm_e (dr_br2 (fun v => wL_lawOf_246 post mc ms x0 x1 x3 x5 x6 x7 x8 x9 x10 x11 x12 x13 x14 x16 v kc ks) id id id h)
theorem dr_l213 (h : wL_lawOf_226 post mc ms x0 x1 x3 x5 x6 x7 x8 x9 x10 x11 x12 x13 x14 x16 (dr_odd x12) (z1 * z0) kc ks) : wL_lawOf_213 post mc ms x0 x1 x3 x5 x6 x7 x8 x9 x10 x11 x12 x13 x14 x16 z0 z1 kc ks :=
  ⟨by decide, dr_br (fun v => wL_lawOf_226 post mc ms x0 x1 x3 x5 x6 x7 x8 x9 x10 x11 x12 x13 x14 x16 v (z1 * z0) kc ks) id id h⟩
theorem dr_l198 (h : wL_lawOf_213 post mc ms x0 x1 x3 x5 x6 x7 x8 x9 x10 x11 x12 x13 x14 z0 (dr_c4 x0 x11) 2 kc ks) : wL_lawOf_198 post mc ms x0 x1 x3 x5 x6 x7 x8 x9 x10 x11 x12 x13 x14 z0 kc ks :=
  dr_br (fun v => wL_lawOf_213 post mc ms x0 x1 x3 x5 x6 x7 x8 x9 x10 x11 x12 x13 x14 z0 v 2 kc ks) id (fun g => ⟨by decide, g⟩) h
theorem dr_l158 (h : wL_lawOf_198 post mc ms x0 x1 x3 x5 x6 x7 x8 x9 x10 x11 x12 x13 x14 (dr_mine x1 x13 z0) kc ks) : wL_lawOf_158 post mc ms x0 x1 x3 x5 x6 x7 x8 x9 x10 x11 x12 x13 x14 z0 kc ks :=
  dr_br (fun v => wL_lawOf_198 post mc ms x0 x1 x3 x5 x6 x7 x8 x9 x10 x11 x12 x13 x14 v kc ks) id (dr_br (fun v => wL_lawOf_198 post mc ms x0 x1 x3 x5 x6 x7 x8 x9 x10 x11 x12 x13 x14 v kc ks) (dr_br2 (fun v => wL_lawOf_198 post mc ms x0 x1 x3 x5 x6 x7 x8 x9 x10 x11 x12 x13 x14 v kc ks) id id id) (dr_br2 (fun v => wL_lawOf_198 post mc ms x0 x1 x3 x5 x6 x7 x8 x9 x10 x11 x12 x13 x14 v kc ks) id id id)) h
theorem dr_l146 (h : wL_lawOf_158 post mc ms x0 x1 x3 x5 x6 x7 x8 x9 x10 x11 x12 x13 z0 (dr_mov x2 z0) kc ks) : wL_lawOf_146 post mc ms x0 x1 x2 x3 x5 x6 x7 x8 x9 x10 x11 x12 x13 z0 kc ks :=
  dr_br (fun v => wL_lawOf_158 post mc ms x0 x1 x3 x5 x6 x7 x8 x9 x10 x11 x12 x13 z0 v kc ks) id id h
theorem dr_l130 (h : wL_lawOf_146 post mc ms x0 x1 x2 x3 x5 x6 x7 x8 x9 x10 x11 x12 z0 (dr_two x2) kc ks) : wL_lawOf_130 post mc ms x0 x1 x2 x3 x5 x6 x7 x8 x9 x10 x11 x12 z0 kc ks :=
  dr_br2 (fun v => wL_lawOf_146 post mc ms x0 x1 x2 x3 x5 x6 x7 x8 x9 x10 x11 x12 z0 v kc ks) id id id h
theorem dr_l115 (h : wL_lawOf_130 post mc ms x0 x1 x2 x3 x5 x6 x7 x8 x9 x10 x11 x12 (dr_g115 x1 x12) kc ks) : wL_lawOf_115 post mc ms x0 x1 x2 x3 x5 x6 x7 x8 x9 x10 x11 x12 kc ks :=
  dr_br (fun v => wL_lawOf_130 post mc ms x0 x1 x2 x3 x5 x6 x7 x8 x9 x10 x11 x12 v kc ks) (dr_br (fun v => wL_lawOf_130 post mc ms x0 x1 x2 x3 x5 x6 x7 x8 x9 x10 x11 x12 v kc ks) id id) id h
theorem dr_l87 (h : wL_lawOf_130 post mc ms x0 x1 x2 x3 x5 x6 x7 x8 x9 x10 x11 z0 (dr_gd x1 x11 z0) kc ks) : wL_lawOf_87 post mc ms x0 x1 x2 x3 x5 x6 x7 x8 x9 x10 x11 z0 kc ks :=
  dr_br (fun v => wL_lawOf_130 post mc ms x0 x1 x2 x3 x5 x6 x7 x8 x9 x10 x11 z0 v kc ks) id (dr_br (fun v => wL_lawOf_130 post mc ms x0 x1 x2 x3 x5 x6 x7 x8 x9 x10 x11 z0 v kc ks) id (dr_br (fun v => wL_lawOf_130 post mc ms x0 x1 x2 x3 x5 x6 x7 x8 x9 x10 x11 z0 v kc ks) id (dr_br (fun v => wL_lawOf_130 post mc ms x0 x1 x2 x3 x5 x6 x7 x8 x9 x10 x11 z0 v kc ks) (dr_br (fun v => wL_lawOf_130 post mc ms x0 x1 x2 x3 x5 x6 x7 x8 x9 x10 x11 z0 v kc ks) id dr_l115) dr_l115))) h
theorem dr_l73 (h : wL_lawOf_87 post mc ms x0 x1 x2 x3 x5 x6 x7 x8 x9 x10 z0 (dr_row x0 z0) kc ks) : wL_lawOf_73 post mc ms x0 x1 x2 x3 x5 x6 x7 x8 x9 x10 z0 kc ks :=
  dr_br (fun v => wL_lawOf_87 post mc ms x0 x1 x2 x3 x5 x6 x7 x8 x9 x10 z0 v kc ks) id (fun g => ⟨by decide, g⟩) h
/-- the whole tail -/
theorem dr_tail {g ro : Int32} (er : ro = dr_row x0 z0) (eg : g = dr_gd x1 z0 ro) (e5 : x5 = g) (e6 : x6 = dr_two x2) (e7 : x7 = if z0 = 0 then (-1) else if g = 0 then 0 else x1) (e8 : x8 = dr_due x0 x1 z0 ro g (dr_mov x2 (dr_two x2))) (e9 : x9 = if x8 ≤ 0 then (-1) else x0) (e10 : x10 = if x3 < 0 then (-1) else if x8 ≤ x3 then (-1) else 0) (h : post 1 ()) : wL_lawOf_73 post mc ms x0 x1 x2 x3 x5 x6 x7 x8 x9 x10 z0 kc ks := by
  subst er
  subst eg
  rw [e8] at e9 e10
  exact dr_l73 (dr_l87 (dr_l130 (dr_l146 (dr_l158 (dr_l198 (dr_l213 (dr_l226 (dr_l246 (dr_l275 (dr_l302 (dr_l336 e5 e6 e7 e8 e9 e10 h)))))))))))
end
end
section
/-! the finite half: a piece on a square, either side to move -/
abbrev dr_Fq (q p : Int32) : Int32 := dr_sel (dr_pg q p) (dr_pF (dr_bt q) p)
abbrev dr_Sq (q p : Int32) : Int32 := dr_sel (dr_pg q p) (dr_pS (dr_bt q) p)
abbrev dr_Kq (q p : Int32) : Int32 := dr_sel (dr_pg q p) (dr_pK (dr_bt q) p)
abbrev dr_gq (q p : Int32) : Int32 := dr_gd p (dr_is q) (dr_row q (dr_is q))
abbrev dr_dq (q p m : Int32) : Int32 := dr_due q p (dr_is q) (dr_row q (dr_is q)) (dr_gq q p) m
abbrev dr_aq (q p : Int32) : Int32 := if dr_is q = 0 then (-1) else if dr_gq q p = 0 then 0 else p
theorem dr_f1 : ∀ q, q < 32 → ∀ p, p < 5 → dr_pg (nI q) (nI p) = dr_gq (nI q) (nI p) ∧ dr_at (dr_Fq (nI q) (nI p)) (dr_Sq (nI q) (nI p)) (dr_Kq (nI q) (nI p)) (nI q) = dr_aq (nI q) (nI p) := by decide +kernel
theorem dr_f2 : ∀ q, q < 32 → ∀ p, p < 5 → ∀ t, t < 2 → (dr_own (dr_Fq (nI q) (nI p)) (dr_Sq (nI q) (nI p)) (nI t) = 0 ∧ dr_dq (nI q) (nI p) (nI t) = nI 0) ∨
    (dr_own (dr_Fq (nI q) (nI p)) (dr_Sq (nI q) (nI p)) (nI t) = dr_bt (nI q) ∧ dr_their (dr_Fq (nI q) (nI p)) (dr_Sq (nI q) (nI p)) (nI t) = 0 ∧ dr_dq (nI q) (nI p) (nI t) = nI (dr_cnt (dr_Fq (nI q) (nI p)) (dr_Sq (nI q) (nI p)) (dr_Kq (nI q) (nI p)) (nI t) (nI q) 4)) := by decide +kernel
theorem dr_f3 : ∀ q, q < 32 → ∀ i, i < 32 → dr_in (dr_bt (nI q)) (nI i) = if i = q then 1 else 0 := by decide +kernel
/-! the rest: no piece was set -/
theorem dr_31 {x : Int32} (h : 31 < x) : 32 ≤ x := by
  have h1 := Int32.lt_iff_toInt_lt.mp h
  refine Int32.le_iff_toInt_le.mpr ?_
  have e1 : (31 : Int32).toInt = 31 := by decide
  have e2 : (32 : Int32).toInt = 32 := by decide
  rw [e1] at h1
  rw [e2]
  omega
theorem dr_n4 {x : Int32} (h : 4 < x) : ¬ x ≤ 4 := by
  have h1 := Int32.lt_iff_toInt_lt.mp h
  intro z
  have h2 := Int32.le_iff_toInt_le.mp z
  omega
theorem dr_le {x y : Int32} (h : ¬ y < x) : x ≤ y := by
  refine Int32.le_iff_toInt_le.mpr ?_
  by_cases z : y.toInt < x.toInt
  · exact absurd (Int32.lt_iff_toInt_lt.mpr z) h
  · omega
theorem dr_case (p0 p1 : Int32) : (dr_pg p0 p1 = 0 ∧ dr_gq p0 p1 = 0 ∧ dr_isq p0 = dr_is p0) ∨ ∃ q p, q < 32 ∧ p < 5 ∧ p0 = nI q ∧ p1 = nI p := by
  by_cases h1 : p0 < 0
  · have a : dr_isq p0 = 0 := if_pos h1
    have b : dr_is p0 = 0 := if_pos h1
    refine .inl ⟨if_pos a, ?_, a.trans b.symm⟩
    exact if_pos b
  · by_cases h2 : 31 < p0
    · have a : dr_isq p0 = 0 := (if_neg h1).trans (if_pos (dr_31 h2))
      have b : dr_is p0 = 0 := (if_neg h1).trans (if_pos h2)
      refine .inl ⟨if_pos a, ?_, a.trans b.symm⟩
      exact if_pos b
    · obtain ⟨q, hq, e⟩ := nI_of2 (M := 31) (n := 31) (by decide) h1 (dr_le h2)
      have hq' : q < 32 := by omega
      have b : dr_is p0 = 1 := (if_neg h1).trans (if_neg h2)
      have h3 : ¬ 32 ≤ p0 := by
        rw [e]
        exact nI_ge (b := 32) hq' (by decide)
      have a : dr_isq p0 = 1 := (if_neg h1).trans (if_neg h3)
      have na : ¬ dr_isq p0 = 0 := by
        rw [a]
        decide
      have nb : ¬ dr_is p0 = 0 := by
        rw [b]
        decide
      by_cases h4 : p1 < 0
      · refine .inl ⟨(if_neg na).trans (if_pos h4), ?_, a.trans b.symm⟩
        exact (if_neg nb).trans (if_pos h4)
      · by_cases h5 : 4 < p1
        · refine .inl ⟨(if_neg na).trans ((if_neg h4).trans (if_neg (dr_n4 h5))), ?_, a.trans b.symm⟩
          exact (if_neg nb).trans ((if_neg h4).trans (if_pos h5))
        · obtain ⟨p, hp, e'⟩ := nI_of2 (M := 4) (n := 4) (by decide) h4 (dr_le h5)
          exact .inr ⟨q, p, hq', by omega, e, e'⟩
theorem dr_side (p2 : Int32) : ∃ t, t < 2 ∧ (dr_tw p2).1 = dr_two p2 ∧ (dr_tw p2).2 = nI t ∧ dr_mov p2 (dr_two p2) = nI t := by
  by_cases h0 : p2 = 0
  · subst h0
    exact ⟨0, by omega, by decide, by decide, by decide⟩
  · by_cases h1 : p2 = 1
    · subst h1
      exact ⟨1, by omega, by decide, by decide, by decide⟩
    · have a : dr_tw p2 = (0, 0) := (if_neg h0).trans (if_neg h1)
      have b : dr_two p2 = 0 := (if_neg h0).trans (if_neg h1)
      rw [a, b]
      exact ⟨0, by omega, rfl, rfl, if_pos rfl⟩
theorem dr_none (K T : Int32) : dr_one 0 0 K T 32 0 := by
  have h : dr_own 0 0 T = 0 := ite_self 0
  refine ⟨by omega, .inl h, fun i _ _ => ?_, fun z => absurd z (by omega), fun z => absurd z (by omega), fun _ => rfl⟩
  rw [h]
  exact dr_in0 _
theorem dr_due0 (x0 x1 x11 x12 m : Int32) : dr_due x0 x1 x11 x12 0 m = 0 := by
  have h : dr_mine x1 0 m = 0 := if_pos rfl
  unfold dr_due
  rw [h]
  exact if_pos rfl
theorem dr_at0 (s : Int32) : dr_at 0 0 0 s = if dr_isq s = 0 then (-1) else 0 := by
  unfold dr_at dr_a25
  simp only [dr_in0, if_true]
theorem dr_facts (p0 p1 p2 : Int32) : ∃ q D, dr_one (dr_Fq p0 p1) (dr_Sq p0 p1) (dr_Kq p0 p1) (dr_tw p2).2 q D ∧ (q < 32 → p0 = nI q) ∧ dr_pg p0 p1 = dr_gq p0 p1 ∧
    dr_at (dr_Fq p0 p1) (dr_Sq p0 p1) (dr_Kq p0 p1) p0 = dr_aq p0 p1 ∧ nI D = dr_dq p0 p1 (dr_mov p2 (dr_two p2)) := by
  obtain ⟨t, ht, e1, e2, e3⟩ := dr_side p2
  rw [e2, e3]
  rcases dr_case p0 p1 with ⟨c1, c2, c3⟩ | ⟨q, p, hq, hp, eq, ep⟩
  · have f1 : dr_Fq p0 p1 = 0 := if_pos c1
    have f2 : dr_Sq p0 p1 = 0 := if_pos c1
    have f3 : dr_Kq p0 p1 = 0 := if_pos c1
    rw [f1, f2, f3]
    refine ⟨32, 0, dr_none 0 _, fun z => absurd z (by omega), c1.trans c2.symm, ?_, ?_⟩
    · rw [dr_at0, c3]
      show _ = if dr_is p0 = 0 then (-1) else if dr_gq p0 p1 = 0 then 0 else p1
      rw [if_pos c2]
    · show nI 0 = dr_due p0 p1 (dr_is p0) (dr_row p0 (dr_is p0)) (dr_gq p0 p1) (nI t)
      rw [c2, dr_due0]
      rfl
  · subst eq
    subst ep
    obtain ⟨g1, g2⟩ := dr_f1 q hq p hp
    rcases dr_f2 q hq p hp t ht with ⟨k1, k2⟩ | ⟨k1, k2, k3⟩
    · refine ⟨32, 0, ⟨by omega, .inl k1, fun i _ _ => ?_, fun z => absurd z (by omega), fun z => absurd z (by omega), fun _ => rfl⟩, fun z => absurd z (by omega), g1, g2, k2.symm⟩
      rw [k1]
      exact dr_in0 _
    · refine ⟨q, _, ⟨by omega, .inr k2, fun i hi hn => ?_, fun _ => ?_, fun _ => rfl, fun z => absurd z (by omega)⟩, fun _ => rfl, g1, g2, k3.symm⟩
      · rw [k1, dr_f3 q hq i hi]
        exact if_neg hn
      · rw [k1, dr_f3 q hq q hq, if_pos rfl]
        decide
end
section
theorem dr_cell {post : Int32 → Prop} {L : Nat} {xs : Nat → Int32} {x : Int32} (i : Nat) (hx : x = nI i) (hL : L ≤ 4) (hi : i < 4) (H : ∀ v, post v) : wpL_cellAt post L xs () x := by
  subst hx
  exact pk_le L i (fun _ => H 0) (fun h => ⟨pk_in i L h, H _⟩)
theorem dr_lawOf (p0 p1 p2 p3 : Int32) : wpL_lawOf (fun r _ => r = 1) 80 1264 () p0 p1 p2 p3 := by
  obtain ⟨q, D, o, hq, e5, e7, e8⟩ := dr_facts p0 p1 p2
  have hD4 := dr_one_le o
  obtain ⟨t, ht, s1, _, _⟩ := dr_side p2
  have e9 : (if D = 0 then (-1) else nI q) = if nI D ≤ 0 then (-1) else p0 := by
    rcases Nat.eq_zero_or_pos D with z | z
    · rw [if_pos z, z, if_pos (by decide)]
    · have hq' : q < 32 := by
        obtain ⟨o1, _, _, _, _, o6⟩ := o
        rcases Nat.lt_or_ge q 32 with y | y
        · exact y
        · have := o6 (by omega)
          omega
      rw [if_neg (by omega), if_neg (nI_nle z (by omega)), hq hq']
  refine ⟨by omega, by omega, 6, 136, by omega, by omega, ?_⟩
  refine ⟨by omega, by omega, by omega, by omega, by omega, by omega, by omega, by omega, by omega, by omega, by omega, by omega, ?_⟩
  refine dr_place ?_
  refine dr_turn ?_
  refine dr_at_wp ?_
  refine dr_moves o (fun _ _ _ _ _ _ _ => ?_)
  refine dr_path o (fun _ _ _ _ _ _ _ => ?_)
  refine dr_play o (fun r hr _ _ _ _ _ _ _ _ _ _ _ _ _ _ _ _ _ _ => ?_)
  have T : ∀ z, z = dr_is p0 → wL_lawOf_73 (fun r _ => r = 1) 80 1264 p0 p1 p2 p3 (dr_pg p0 p1) (dr_tw p2).1 (dr_at (dr_Fq p0 p1) (dr_Sq p0 p1) (dr_Kq p0 p1) p0) (nI D) (if D = 0 then (-1) else nI q) r z (1 + 6) (18 + 136) := fun z ez => by
    subst ez
    exact dr_tail rfl rfl e5 s1 e7 e8 e9 hr rfl
  exact dr_br2 (fun z => z = dr_is p0) (T 0) (T 0) (T 1) rfl
theorem i_vc (xs : Nat → Int32) (L : Nat) (hL : L ≤ 4) : wpL_law (fun r => r = 1) L xs := by
  unfold wpL_law
  refine dr_cell 0 rfl hL (by omega) (fun r1 => ?_)
  refine dr_cell 1 rfl hL (by omega) (fun r2 => ?_)
  refine dr_cell 2 rfl hL (by omega) (fun r3 => ?_)
  refine dr_cell 3 rfl hL (by omega) (fun r4 => ?_)
  exact ⟨80, 1264, by omega, by omega, dr_lawOf r1 r2 r3 r4⟩
end
