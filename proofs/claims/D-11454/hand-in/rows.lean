section
/-- a query 0 with c clauses (kinds kd, first fs, second sd), least lst, filed as the class files it: among the always ones, or under the term s of its one SHOULD clause -/
def pq_K (c lst s : Nat) (kd fs sd : Nat → Int32) (al : Int32) (a1 a2 a3 a4 a5 a6 a7 : Nat → Int32) : Prop :=
  a1 0 = 1 ∧ a2 0 = nI lst ∧ a3 0 = nI c ∧ (∀ j, j < c → a4 j = kd j ∧ a5 j = fs j ∧ a6 j = sd j) ∧ al = (if lst = 0 then 1 else 0) ∧ (∀ t, t < 24 → a7 t = if lst ≠ 0 ∧ 0 < c ∧ t = s then 1 else 0)
/-- no clause is sure (MUST or PHRASE); the SHOULD clause is the one at 0 -/
def pq_kd (kd : Nat → Int32) : Prop := ∀ j, j < 6 → ¬ kd j = 0 ∧ ¬ kd j = 3 ∧ (kd j = 2 ↔ j = 0)
theorem pq_sh0 : (1 : Int32) <<< ((0 : Int32) &&& 31) = 1 := by decide
theorem pq_m1 : (1 : Int32) &&& ((1 : Int32) ^^^ (-1)) = 0 := by decide
theorem pq_m0 : (0 : Int32) &&& ((1 : Int32) ^^^ (-1)) = 0 := by decide
theorem pq_e0 (x : Int32) : (0 : Int32) * 6 + x = x := by rw [Int32.zero_mul, Int32.zero_add]
section
variable {al wo nu lw fo : Int32} {a1 a2 a3 a4 a5 a6 a7 a8 a9 a10 a11 a12 : Nat → Int32}
theorem pq_sure {post : Int32 → Prop} {i : Nat} (hi : i < 72) (h0 : ¬ a4 i = 0) (h3 : ¬ a4 i = 3) (hp : post 0) : wpX_sure post (al, wo, nu, lw, fo, a1, a2, a3, a4, a5, a6, a7, a8, a9, a10, a11, a12) (nI i) := by
  unfold wpX_sure
  dsimp only
  rw [nI_clamp (show i < 2 ^ 31 by omega)]
  exact ⟨pk_in i 72 hi, br_f h0 ⟨pk_in i 72 hi, br_f h3 hp⟩⟩
theorem pq_count {post : St2 → Prop} {d : Int32} {c : Nat} (hc : c ≤ 6) (h3 : a3 0 = nI c) (hk : ∀ j, j < c → ¬ a4 j = 0 ∧ ¬ a4 j = 3) (hp : post (al, wo, nu, lw, fo, a1, a2, a3, a4, a5, a6, a7, a8, a9, a10, a11, a12)) : wpX_count post (al, wo, nu, lw, fo, a1, a2, a3, a4, a5, a6, a7, a8, a9, a10, a11, a12) 0 d := by
  unfold wpX_count
  have e : (0 : Int32) * 6 + a3 (0 : Int32).toNatClampNeg = nI c := by rw [sb_cl0, h3, pq_e0]
  refine nm_r (e' := nI 0) (by rfl) ?_
  refine pk_loop (σ := Unit) (fun n i _ => wX_count_5 post 0 d al wo nu lw fo n (nI i) a1 a2 a3 a4 a5 a6 a7 a8 a9 a10 a11 a12) (fun _ _ => True) c 0 () (by omega) trivial ?_ ?_
  · intro n _ _
    refine And.intro (pk_in 0 12 (by omega)) ?_
    exact pk_le c c (fun _ => hp) (fun z => absurd z (by omega)) e
  · intro n i _ hi _ hw
    refine And.intro (pk_in 0 12 (by omega)) ?_
    refine pk_le c i (fun z => absurd z (by omega)) (fun _ => ?_) e
    exact pq_sure (by omega) (hk i hi).1 (hk i hi).2 (br_t rfl (nm_r (nI_1 i) (hw () trivial)))
theorem pq_rarest {post : Int32 → Prop} {c : Nat} (hc : c ≤ 6) (h3 : a3 0 = nI c) (hk : ∀ j, j < c → ¬ a4 j = 0 ∧ ¬ a4 j = 3) (hp : post (-1)) : wpX_rarest post (al, wo, nu, lw, fo, a1, a2, a3, a4, a5, a6, a7, a8, a9, a10, a11, a12) 0 := by
  unfold wpX_rarest
  have e : (0 : Int32) * 6 + a3 (0 : Int32).toNatClampNeg = nI c := by rw [sb_cl0, h3, pq_e0]
  refine nm_r (e' := nI 0) (by rfl) ?_
  refine pk_loop (σ := Unit) (fun n i _ => wX_rarest_7 post 0 al wo nu lw fo a1 a2 a3 a4 a5 a6 a7 a8 a9 a10 a11 a12 n (-1) (nI i)) (fun _ _ => True) c 0 () (by omega) trivial ?_ ?_
  · intro n _ _
    refine And.intro (pk_in 0 12 (by omega)) ?_
    exact pk_le c c (fun _ => hp) (fun z => absurd z (by omega)) e
  · intro n i _ hi _ hw
    refine And.intro (pk_in 0 12 (by omega)) ?_
    refine pk_le c i (fun z => absurd z (by omega)) (fun _ => ?_) e
    exact pq_sure (by omega) (hk i hi).1 (hk i hi).2 (br_t rfl (nm_r (nI_1 i) (hw () trivial)))
theorem pq_file {post : St2 → Prop} {c lst s : Nat} (hc : c ≤ 6) (hs : s < 24) (hl : lst < 2 ^ 31) (h2 : a2 0 = nI lst) (h3 : a3 0 = nI c) (hk : ∀ j, j < c → ¬ a4 j = 0 ∧ ¬ a4 j = 3)
    (hk2 : ∀ j, j < c → (a4 j = 2 ↔ j = 0)) (h5 : 0 < c → a5 0 = nI s) (hp0 : lst = 0 → post (al ||| 1, wo, nu, lw, fo, a1, a2, a3, a4, a5, a6, a7, a8, a9, a10, a11, a12)) (hp1 : lst ≠ 0 → post (al, wo, nu, lw, fo, a1, a2, a3, a4, a5, a6, (if c = 0 then a7 else upd a7 s (a7 s ||| 1)), a8, a9, a10, a11, a12)) : wpX_file post (al, wo, nu, lw, fo, a1, a2, a3, a4, a5, a6, a7, a8, a9, a10, a11, a12) 0 := by
  unfold wpX_file
  have e : (0 : Int32) * 6 + a3 (0 : Int32).toNatClampNeg = nI c := by rw [sb_cl0, h3, pq_e0]
  refine pq_count hc h3 hk ?_
  refine pq_rarest hc h3 hk ?_
  refine br_t (by decide) (And.intro (pk_in 0 12 (by omega)) ?_)
  refine pk_eq lst 0 (fun z => ?_) (fun z => ?_) (by rw [sb_cl0, h2])
  · exact nm_r (e' := al ||| 1) (by rw [pq_sh0]) (hp0 z)
  · refine nm_r (e' := nI 0) (by rfl) ?_
    refine pk_loop (fun n i a => wX_file_56 post 0 al wo nu lw fo n (nI i) a1 a2 a3 a4 a5 a6 a a8 a9 a10 a11 a12) (fun i a => a = if i = 0 then a7 else upd a7 s (a7 s ||| 1)) c 0 a7 (by omega) rfl ?_ ?_
    · intro n a ha
      refine And.intro (pk_in 0 12 (by omega)) (pk_le c c (fun _ => ?_) (fun z => absurd z (by omega)) e)
      rw [ha]
      exact hp1 z
    · intro n i a hi ha hw
      refine And.intro (pk_in 0 12 (by omega)) (pk_le c i (fun z => absurd z (by omega)) (fun _ => ?_) e)
      have ei := nI_clamp (show i < 2 ^ 31 by omega)
      refine And.intro (pk_in i 72 (by omega)) ?_
      by_cases z0 : i = 0
      · subst z0
        have e5 : a5 (nI 0).toNatClampNeg = nI s := by rw [ei]; exact h5 hi
        refine br_t (by rw [ei]; exact (hk2 0 hi).mpr rfl) ?_
        refine And.intro (pk_in 0 72 (by omega)) (And.intro (pk_in s 24 hs e5) (And.intro (pk_in s 24 hs e5) ?_))
        refine nm_r (e' := upd a7 s (a7 s ||| 1)) ?_ (nm_r (nI_1 0) (hw _ ?_))
        · rw [e5, nI_clamp (show s < 2 ^ 31 by omega), pq_sh0, ha, if_pos rfl]
        · rw [if_neg (by omega)]
      · refine br_f (by rw [ei]; exact fun q => z0 ((hk2 i hi).mp q)) (nm_r (nI_1 i) (hw _ ?_))
        rw [ha, if_neg z0, if_neg (by omega)]
theorem pq_unfile {post : St2 → Prop} {c : Nat} (hc : c ≤ 6) (h3 : a3 0 = nI c) (hk : ∀ j, j < c → ¬ a4 j = 0 ∧ ¬ a4 j = 3)
    (hp : ∀ b7 : Nat → Int32, (∀ t, t < 24 → b7 t = a7 t &&& ((1 : Int32) ^^^ (-1))) → post (al &&& ((1 : Int32) ^^^ (-1)), wo, nu, lw, fo, a1, a2, a3, a4, a5, a6, b7, a8, a9, a10, a11, a12)) : wpX_unfile post (al, wo, nu, lw, fo, a1, a2, a3, a4, a5, a6, a7, a8, a9, a10, a11, a12) 0 := by
  unfold wpX_unfile
  refine nm_r (e' := al &&& ((1 : Int32) ^^^ (-1))) (by rw [pq_sh0]) ?_
  refine pk_loop (fun n i a => wX_unfile_16 post 0 (al &&& ((1 : Int32) ^^^ (-1))) wo nu lw fo n (nI i) a1 a2 a3 a4 a5 a6 a a8 a9 a10 a11 a12) (fun i a => (∀ t, t < i → a t = a7 t &&& ((1 : Int32) ^^^ (-1))) ∧ (∀ t, i ≤ t → a t = a7 t)) 24 0 a7 (by omega) ⟨fun t h => absurd h (by omega), fun _ _ => rfl⟩ ?_ ?_
  · intro n a ha
    refine pk_le 24 24 (fun _ => ?_) (fun z => absurd z (by omega))
    exact pq_count hc h3 hk (hp a ha.1)
  · intro n i a hi ha hw
    refine pk_le 24 i (fun z => absurd z (by omega)) (fun _ => ?_)
    refine And.intro (pk_in i 24 hi) (And.intro (pk_in i 24 hi) ?_)
    refine nm_r (e' := upd a i (a7 i &&& ((1 : Int32) ^^^ (-1)))) ?_ (nm_r (nI_1 i) (hw _ ⟨?_, ?_⟩))
    · rw [nI_clamp (show i < 2 ^ 31 by omega), pq_sh0, ha.2 i (Nat.le_refl i)]
    · intro t ht
      by_cases z : t = i
      · rw [z, pk_us]
      · rw [pk_un z]
        exact ha.1 t (by omega)
    · intro t ht
      rw [pk_un (by omega)]
      exact ha.2 t (by omega)
end
end
section
section
variable {al wo nu lw fo : Int32} {a1 a2 a3 a4 a5 a6 a7 a8 a9 a10 a11 a12 : Nat → Int32}
theorem pq_add {post : Int32 → St2 → Prop} {c lst s : Nat} {kd fs sd : Nat → Int32} {p1 p2 p3 : Int32} (hK : pq_K c lst s kd fs sd al a1 a2 a3 a4 a5 a6 a7) (hc : c < 6) (hs : s < 24) (hl : lst < 2 ^ 31) (hkd : pq_kd kd) (hf : fs 0 = nI s)
    (q1 : p1 = kd c) (q2 : p2 = fs c) (q3 : p3 = sd c)
    (hp : ∀ (bl : Int32) (b3 b4 b5 b6 b7 : Nat → Int32), pq_K (c + 1) lst s kd fs sd bl a1 a2 b3 b4 b5 b6 b7 → post (nI (c + 1)) (bl, wo, nu, lw, fo, a1, a2, b3, b4, b5, b6, b7, a8, a9, a10, a11, a12)) : wpX_add post (al, wo, nu, lw, fo, a1, a2, a3, a4, a5, a6, a7, a8, a9, a10, a11, a12) 0 p1 p2 p3 := by
  obtain ⟨k1, k2, k3, k4, k5, k6⟩ := hK
  subst q1 q2 q3
  have e3 : a3 (0 : Int32).toNatClampNeg = nI c := by rw [sb_cl0, k3]
  unfold wpX_add
  refine And.intro (pk_in 0 12 (by omega)) ?_
  refine pk_lt c 6 (fun _ => ?_) (fun z => absurd z (by omega)) e3
  refine pq_unfile (c := c) (by omega) k3 (fun j hj => by rw [(k4 j hj).1]; exact ⟨(hkd j (by omega)).1, (hkd j (by omega)).2.1⟩) (fun b7 h7 => ?_)
  have z7 : ∀ t, t < 24 → b7 t = 0 := by
    intro t ht
    rw [h7 t ht, k6 t ht]
    split
    · exact pq_m1
    · exact pq_m0
  have zl : al &&& ((1 : Int32) ^^^ (-1)) = 0 := by
    rw [k5]
    split
    · exact pq_m1
    · exact pq_m0
  rw [zl]
  refine And.intro (pk_in 0 12 (by omega)) ?_
  refine nm_r (e' := nI c) (by rw [e3, pq_e0]) ?_
  have ec := nI_clamp (show c < 2 ^ 31 by omega)
  refine And.intro (pk_in c 72 (by omega)) (nm_r (e' := upd a4 c (kd c)) (by rw [ec]) ?_)
  refine And.intro (pk_in c 72 (by omega)) (nm_r (e' := upd a5 c (fs c)) (by rw [ec]) ?_)
  refine And.intro (pk_in c 72 (by omega)) (nm_r (e' := upd a6 c (sd c)) (by rw [ec]) ?_)
  refine And.intro (pk_in 0 12 (by omega)) (And.intro (pk_in 0 12 (by omega)) ?_)
  refine nm_r (e' := upd a3 0 (nI (c + 1))) (by rw [e3, nI_1, sb_cl0]) ?_
  have n4 : ∀ j, j < c + 1 → upd a4 c (kd c) j = kd j ∧ upd a5 c (fs c) j = fs j ∧ upd a6 c (sd c) j = sd j := by
    intro j hj
    by_cases z : j = c
    · rw [z, pk_us, pk_us, pk_us]
      exact ⟨rfl, rfl, rfl⟩
    · rw [pk_un z, pk_un z, pk_un z]
      exact k4 j (by omega)
  have e3' : upd a3 0 (nI (c + 1)) (0 : Int32).toNatClampNeg = nI (c + 1) := by rw [sb_cl0, pk_us]
  refine pq_file (c := c + 1) (lst := lst) (s := s) (by omega) hs hl k2 pk_us (fun j hj => ?_) (fun j hj => ?_) (fun _ => ?_) (fun z => ?_) (fun z => ?_)
  · rw [(n4 j hj).1]
    exact ⟨(hkd j (by omega)).1, (hkd j (by omega)).2.1⟩
  · rw [(n4 j hj).1]
    exact (hkd j (by omega)).2.2
  · rw [(n4 0 (by omega)).2.1]
    exact hf
  · refine And.intro (pk_in 0 12 (by omega)) ?_
    refine ek_v (P := fun r => post r _) e3' ?_
    refine hp _ _ _ _ _ _ ⟨k1, k2, pk_us, n4, ?_, ?_⟩
    · rw [if_pos z]
      decide
    · intro t ht
      rw [z7 t ht, if_neg (fun h => h.1 z)]
  · refine And.intro (pk_in 0 12 (by omega)) ?_
    refine ek_v (P := fun r => post r _) e3' ?_
    refine hp _ _ _ _ _ _ ⟨k1, k2, pk_us, n4, ?_, ?_⟩
    · rw [if_neg z]
    · intro t ht
      rw [if_neg (by omega)]
      by_cases w : t = s
      · rw [w, pk_us, z7 s hs, if_pos ⟨z, by omega, rfl⟩]
        decide
      · rw [pk_un w, z7 t ht, if_neg (fun h => w h.2.2)]
theorem pq_noQuery {post : Int32 → Prop} (h1 : a1 0 = 1) (hp : post 0) : wpX_noQuery post (al, wo, nu, lw, fo, a1, a2, a3, a4, a5, a6, a7, a8, a9, a10, a11, a12) 0 := by
  unfold wpX_noQuery
  refine br_f (by decide) (br_f (by decide) (And.intro (pk_in 0 12 (by omega)) (br_f ?_ hp)))
  rw [sb_cl0, h1]
  decide
theorem pq_badTerm {post : Int32 → Prop} {t : Nat} (ht : t < 24) (hp : post 0) : wpX_badTerm post () (nI t) := by
  unfold wpX_badTerm
  exact br_f (nI_pos (by omega)) (pk_lt t 24 (fun _ => hp) (fun z => absurd z (by omega)))
theorem pq_addTerm {post : Int32 → St2 → Prop} {c lst s t : Nat} {kd fs sd : Nat → Int32} {p1 : Int32} (hK : pq_K c lst s kd fs sd al a1 a2 a3 a4 a5 a6 a7) (hc : c < 6) (hs : s < 24) (hl : lst < 2 ^ 31) (hkd : pq_kd kd) (hf : fs 0 = nI s) (ht : t < 24)
    (q1 : p1 = kd c) (q2 : nI t = fs c) (q3 : 0 = sd c)
    (hp : ∀ (bl : Int32) (b3 b4 b5 b6 b7 : Nat → Int32), pq_K (c + 1) lst s kd fs sd bl a1 a2 b3 b4 b5 b6 b7 → post (nI (c + 1)) (bl, wo, nu, lw, fo, a1, a2, b3, b4, b5, b6, b7, a8, a9, a10, a11, a12)) : wpX_addTerm post (al, wo, nu, lw, fo, a1, a2, a3, a4, a5, a6, a7, a8, a9, a10, a11, a12) 0 p1 (nI t) := by
  unfold wpX_addTerm
  refine pq_noQuery hK.1 (br_t rfl ?_)
  refine pq_badTerm ht (br_t rfl ?_)
  exact pq_add hK hc hs hl hkd hf q1 q2 q3 hp
theorem pq_should {post : Int32 → St2 → Prop} {c lst s t : Nat} {kd fs sd : Nat → Int32} (hK : pq_K c lst s kd fs sd al a1 a2 a3 a4 a5 a6 a7) (hc : c < 6) (hs : s < 24) (hl : lst < 2 ^ 31) (hkd : pq_kd kd) (hf : fs 0 = nI s) (ht : t < 24)
    (q1 : 2 = kd c) (q2 : nI t = fs c) (q3 : 0 = sd c)
    (hp : ∀ (bl : Int32) (b3 b4 b5 b6 b7 : Nat → Int32), pq_K (c + 1) lst s kd fs sd bl a1 a2 b3 b4 b5 b6 b7 → post (nI (c + 1)) (bl, wo, nu, lw, fo, a1, a2, b3, b4, b5, b6, b7, a8, a9, a10, a11, a12)) : wpX_should post (al, wo, nu, lw, fo, a1, a2, a3, a4, a5, a6, a7, a8, a9, a10, a11, a12) 0 (nI t) := by
  unfold wpX_should
  exact pq_addTerm hK hc hs hl hkd hf ht q1 q2 q3 hp
theorem pq_not {post : Int32 → St2 → Prop} {c lst s t : Nat} {kd fs sd : Nat → Int32} (hK : pq_K c lst s kd fs sd al a1 a2 a3 a4 a5 a6 a7) (hc : c < 6) (hs : s < 24) (hl : lst < 2 ^ 31) (hkd : pq_kd kd) (hf : fs 0 = nI s) (ht : t < 24)
    (q1 : 1 = kd c) (q2 : nI t = fs c) (q3 : 0 = sd c)
    (hp : ∀ (bl : Int32) (b3 b4 b5 b6 b7 : Nat → Int32), pq_K (c + 1) lst s kd fs sd bl a1 a2 b3 b4 b5 b6 b7 → post (nI (c + 1)) (bl, wo, nu, lw, fo, a1, a2, b3, b4, b5, b6, b7, a8, a9, a10, a11, a12)) : wpX_not post (al, wo, nu, lw, fo, a1, a2, a3, a4, a5, a6, a7, a8, a9, a10, a11, a12) 0 (nI t) := by
  unfold wpX_not
  exact pq_addTerm hK hc hs hl hkd hf ht q1 q2 q3 hp
theorem pq_range {post : Int32 → St2 → Prop} {c lst s : Nat} {kd fs sd : Nat → Int32} {p1 p2 : Int32} (hK : pq_K c lst s kd fs sd al a1 a2 a3 a4 a5 a6 a7) (hc : c < 6) (hs : s < 24) (hl : lst < 2 ^ 31) (hkd : pq_kd kd) (hf : fs 0 = nI s)
    (q1 : 4 = kd c) (q2 : p1 = fs c) (q3 : p2 = sd c)
    (hp : ∀ (bl : Int32) (b3 b4 b5 b6 b7 : Nat → Int32), pq_K (c + 1) lst s kd fs sd bl a1 a2 b3 b4 b5 b6 b7 → post (nI (c + 1)) (bl, wo, nu, lw, fo, a1, a2, b3, b4, b5, b6, b7, a8, a9, a10, a11, a12)) : wpX_range post (al, wo, nu, lw, fo, a1, a2, a3, a4, a5, a6, a7, a8, a9, a10, a11, a12) 0 p1 p2 := by
  unfold wpX_range
  refine pq_noQuery hK.1 (br_t rfl ?_)
  exact pq_add hK hc hs hl hkd hf q1 q2 q3 hp
theorem pq_create {post : Int32 → St2 → Prop} {lst s : Nat} {kd fs sd : Nat → Int32} (hl : lst ≤ 6) (hs : s < 24) (h1 : a1 0 = 0) (h7 : ∀ t, t < 24 → a7 t = 0)
    (hp : ∀ (bl : Int32) (b1 b2 b3 b7 : Nat → Int32), pq_K 0 lst s kd fs sd bl b1 b2 b3 a4 a5 a6 b7 → post 0 (bl, wo, nu, lw, fo, b1, b2, b3, a4, a5, a6, b7, a8, a9, a10, a11, a12)) : wpX_create post (0, wo, nu, lw, fo, a1, a2, a3, a4, a5, a6, a7, a8, a9, a10, a11, a12) (nI lst) := by
  unfold wpX_create
  refine br_f (nI_pos (by omega)) (pk_le lst 6 (fun _ => ⟨1, ?_⟩) (fun z => absurd z (by omega)))
  refine br_f (by decide) (And.intro (pk_in 0 12 (by omega)) (br_t (by rw [sb_cl0, h1]) ?_))
  unfold wX_create_36
  refine br_f (by decide) ?_
  refine And.intro (pk_in 0 12 (by omega)) (nm_r (e' := upd a1 0 1) (by rw [sb_cl0]) ?_)
  refine And.intro (pk_in 0 12 (by omega)) (nm_r (e' := upd a2 0 (nI lst)) (by rw [sb_cl0]) ?_)
  refine And.intro (pk_in 0 12 (by omega)) (nm_r (e' := upd a3 0 (nI 0)) (by rw [sb_cl0]; rfl) ?_)
  refine pq_file (c := 0) (lst := lst) (s := s) (by omega) hs (by omega) pk_us pk_us (fun j hj => absurd hj (by omega)) (fun j hj => absurd hj (by omega)) (fun h => absurd h (by omega)) (fun z => ?_) (fun z => ?_)
  · refine hp _ _ _ _ _ ⟨pk_us, pk_us, pk_us, fun j hj => absurd hj (by omega), ?_, fun t ht => ?_⟩
    · rw [if_pos z]
      decide
    · rw [h7 t ht, if_neg (fun h => h.1 z)]
  · refine hp _ _ _ _ _ ⟨pk_us, pk_us, pk_us, fun j hj => absurd hj (by omega), ?_, fun t ht => ?_⟩
    · rw [if_neg z]
    · rw [if_pos rfl, h7 t ht, if_neg (fun h => absurd h.2.1 (by omega))]
theorem pq_document {post : St2 → Prop} {p : Int32} (hp : ∀ b9 b10 : Nat → Int32, (∀ t, t < 24 → b9 t = 0) → post (al, 0, p, -1, fo, a1, a2, a3, a4, a5, a6, a7, a8, b9, b10, a11, a12)) : wpX_document post (al, wo, nu, lw, fo, a1, a2, a3, a4, a5, a6, a7, a8, a9, a10, a11, a12) p := by
  unfold wpX_document
  refine pk_loop (fun n i (x : (Nat → Int32) × (Nat → Int32)) => wX_document_17 post al 0 p ((-1)) fo n (nI i) a1 a2 a3 a4 a5 a6 a7 a8 x.1 x.2 a11 a12) (fun i x => ∀ t, t < i → x.1 t = 0) 24 0 (a9, a10) (by omega) (fun t h => absurd h (by omega)) ?_ ?_
  · intro n x hx
    exact pk_le 24 24 (fun _ => hp x.1 x.2 hx) (fun z => absurd z (by omega))
  · intro n i x hi hx hw
    refine pk_le 24 i (fun z => absurd z (by omega)) (fun _ => ?_)
    refine And.intro (pk_in i 24 hi) (nm_r (e' := upd x.1 i 0) (by rw [nI_clamp (show i < 2 ^ 31 by omega)]) ?_)
    refine And.intro (pk_in i 24 hi) (nm_e (nm_r (nI_1 i) (hw (upd x.1 i 0, _) ?_)))
    intro t ht
    show upd x.1 i 0 t = 0
    by_cases z : t = i
    · rw [z, pk_us]
    · rw [pk_un z]
      exact hx t (by omega)
theorem pq_word {post : Int32 → St2 → Prop} {k t : Nat} (hk : k < 16) (ht : t < 24) (hl : lw = -1 ∨ ∃ l, l < 24 ∧ lw = nI l)
    (hp : ∀ b10 : Nat → Int32, post (nI (k + 1)) (al, nI (k + 1), nu, nI t, fo, a1, a2, a3, a4, a5, a6, a7, a8, upd a9 t (a9 t + 1), b10, a11, a12)) : wpX_word post (al, nI k, nu, lw, fo, a1, a2, a3, a4, a5, a6, a7, a8, a9, a10, a11, a12) (nI t) := by
  unfold wpX_word
  refine pq_badTerm ht (br_t rfl ?_)
  refine pk_lt k 16 (fun _ => ?_) (fun z => absurd z (by omega))
  refine And.intro (pk_in t 24 ht) (And.intro (pk_in t 24 ht) (nm_r (e' := upd a9 t (a9 t + 1)) (by rw [nI_clamp (show t < 2 ^ 31 by omega)]) ?_))
  rcases hl with z | ⟨l, hl, z⟩
  · subst z
    refine br_t (by decide) ?_
    exact nm_r (nI_1 k) (hp _)
  · subst z
    refine br_f (nI_pos (by omega)) (And.intro (pk_in l 24 hl) (And.intro (pk_in l 24 hl) (nm_e ?_)))
    exact nm_r (nI_1 k) (hp _)
end
end
section
/-- the query 0 as the law makes it (SHOULD s, NOT n, RANGE lo hi; least lst), its filing, and a document's counts cn -/
def pq_Q (lst s n : Nat) (lo hi : Int32) (cn : Nat → Nat) (al : Int32) (a2 a3 a4 a5 a6 a7 a9 : Nat → Int32) : Prop :=
  s < 24 ∧ n < 24 ∧ lst < 2 ^ 31 ∧ a2 0 = nI lst ∧ a3 0 = nI 3 ∧ (a4 0 = 2 ∧ a5 0 = nI s) ∧ (a4 1 = 1 ∧ a5 1 = nI n) ∧ (a4 2 = 4 ∧ a5 2 = lo ∧ a6 2 = hi) ∧ al = (if lst = 0 then 1 else 0) ∧
  (∀ t, t < 24 → a7 t = if lst ≠ 0 ∧ t = s then 1 else 0) ∧ (∀ t, t < 24 → a9 t = nI (cn t) ∧ cn t ≤ 2)
/-- the query holds of the document -/
def pq_H (lst s n : Nat) (lo hi : Int32) (cn : Nat → Nat) (nu : Int32) : Prop := cn n = 0 ∧ ¬ nu < lo ∧ ¬ hi < nu ∧ lst ≤ (if cn s = 0 then 0 else 1)
theorem pq_bit : ∀ b, b < 2 → ∀ i, i < 12 → 0 < i → ¬ ((nI b >>> (nI i &&& 31)) &&& 1) = 1 := by decide +kernel
theorem pq_or {lst s i : Nat} {cn : Nat → Nat} {x y : Int32} (hx : x = if lst = 0 ∨ (cn s ≠ 0 ∧ s < i) then 1 else 0) (hy : y = if lst ≠ 0 ∧ i = s then 1 else 0) (hc : cn i ≠ 0) : x ||| y = if lst = 0 ∨ (cn s ≠ 0 ∧ s < i + 1) then 1 else 0 := by
  subst hx hy
  by_cases l : lst = 0
  · rw [if_pos (Or.inl l), if_neg (fun h => h.1 l), if_pos (Or.inl l)]
    decide
  · by_cases e : i = s
    · subst e
      rw [if_neg (fun h => h.elim l (fun h => absurd h.2 (by omega))), if_pos ⟨l, rfl⟩, if_pos (Or.inr ⟨hc, by omega⟩)]
      decide
    · rw [if_neg (c := lst ≠ 0 ∧ i = s) (fun h => e h.2)]
      by_cases g : cn s ≠ 0 ∧ s < i
      · rw [if_pos (Or.inr g), if_pos (Or.inr ⟨g.1, by omega⟩)]
        decide
      · rw [if_neg (fun h => h.elim l g), if_neg (fun h => h.elim l (fun h => g ⟨h.1, by omega⟩))]
        decide
section
variable {al wo nu lw fo : Int32} {a1 a2 a3 a4 a5 a6 a7 a8 a9 a10 a11 a12 : Nat → Int32}
theorem pq_holds2 {post : Int32 → Prop} {i : Nat} (hi : i < 72) (h4 : a4 i = 2) (hp : post 1) : wpX_holds post (al, wo, nu, lw, fo, a1, a2, a3, a4, a5, a6, a7, a8, a9, a10, a11, a12) (nI i) := by
  unfold wpX_holds
  refine And.intro (pk_in i 72 hi) (nm_r (e' := (2 : Int32)) (by rw [nI_clamp (show i < 2 ^ 31 by omega), h4]) ?_)
  exact br_f (by decide) (br_f (by decide) (br_f (by decide) (br_f (by decide) (br_t rfl hp))))
theorem pq_holds1 {post : Int32 → Prop} {i n m : Nat} (hi : i < 72) (hn : n < 24) (hm : m < 2 ^ 31) (h4 : a4 i = 1) (h5 : a5 i = nI n) (h9 : a9 n = nI m) (hp1 : m = 0 → post 1) (hp0 : m ≠ 0 → post 0) : wpX_holds post (al, wo, nu, lw, fo, a1, a2, a3, a4, a5, a6, a7, a8, a9, a10, a11, a12) (nI i) := by
  have ei := nI_clamp (show i < 2 ^ 31 by omega)
  have e5 : a5 (nI i).toNatClampNeg = nI n := by rw [ei, h5]
  unfold wpX_holds
  refine And.intro (pk_in i 72 hi) (nm_r (e' := (1 : Int32)) (by rw [ei, h4]) ?_)
  refine br_f (by decide) (br_f (by decide) (br_f (by decide) (br_t rfl ?_)))
  exact And.intro (pk_in i 72 hi) (And.intro (pk_in n 24 hn e5) (pk_eq m 0 hp1 hp0 (by rw [e5, nI_clamp (show n < 2 ^ 31 by omega), h9])))
theorem pq_holds4 {post : Int32 → Prop} {i : Nat} {lo hi : Int32} (hi0 : i < 72) (h4 : a4 i = 4) (h5 : a5 i = lo) (h6 : a6 i = hi) (hl : nu < lo → post 0) (hh : hi < nu → post 0) (hp : ¬ nu < lo → ¬ hi < nu → post 1) : wpX_holds post (al, wo, nu, lw, fo, a1, a2, a3, a4, a5, a6, a7, a8, a9, a10, a11, a12) (nI i) := by
  have ei := nI_clamp (show i < 2 ^ 31 by omega)
  unfold wpX_holds
  refine And.intro (pk_in i 72 hi0) (nm_r (e' := (4 : Int32)) (by rw [ei, h4]) ?_)
  refine br_f (by decide) (br_f (by decide) (br_f (by decide) (br_f (by decide) (br_f (by decide) (br_f (by decide) (br_t rfl ?_))))))
  rw [ei, h5, h6]
  exact And.intro (pk_in i 72 hi0) (br_c hl (fun z => And.intro (pk_in i 72 hi0) (br_c hh (hp z))))
theorem pq_ck3 {post : Int32 → Prop} {lst m k : Nat} (hl : lst < 2 ^ 31) (hm : m < 2 ^ 31) (h2 : a2 0 = nI lst) (h3 : a3 0 = nI 3) (hp0 : m < lst → post 0) (hp1 : lst ≤ m → post 1) : wX_check_7 post 0 al wo nu lw fo a1 a2 a3 a4 a5 a6 a7 a8 a9 a10 a11 a12 (k + 1) (nI m) (nI 3) := by
  have e : (0 : Int32) * 6 + a3 (0 : Int32).toNatClampNeg = nI 3 := by rw [sb_cl0, h3, pq_e0]
  refine And.intro (pk_in 0 12 (by omega)) (pk_le 3 3 (fun _ => ?_) (fun z => absurd z (by omega)) e)
  exact And.intro (pk_in 0 12 (by omega)) (pk_lt m lst hp0 hp1 rfl (by rw [sb_cl0, h2]))
theorem pq_ck2 {post : Int32 → Prop} {k : Nat} {x2 lo hi : Int32} (h3 : a3 0 = nI 3) (h4 : a4 2 = 4) (h5 : a5 2 = lo) (h6 : a6 2 = hi) (hl : nu < lo → post 0) (hh : hi < nu → post 0) (hp : ¬ nu < lo → ¬ hi < nu → wX_check_7 post 0 al wo nu lw fo a1 a2 a3 a4 a5 a6 a7 a8 a9 a10 a11 a12 k x2 (nI 3)) : wX_check_7 post 0 al wo nu lw fo a1 a2 a3 a4 a5 a6 a7 a8 a9 a10 a11 a12 (k + 1) x2 (nI 2) := by
  have e : (0 : Int32) * 6 + a3 (0 : Int32).toNatClampNeg = nI 3 := by rw [sb_cl0, h3, pq_e0]
  refine And.intro (pk_in 0 12 (by omega)) (pk_le 3 2 (fun z => absurd z (by omega)) (fun _ => ?_) e)
  refine pq_holds4 (by omega) h4 h5 h6 (fun z => br_t rfl (hl z)) (fun z => br_t rfl (hh z)) (fun z1 z2 => br_f (by decide) ?_)
  refine And.intro (pk_in 2 72 (by omega)) (br_f ?_ (nm_r (nI_1 2) (hp z1 z2)))
  rw [nI_clamp (by omega), h4]
  decide
theorem pq_ck1 {post : Int32 → Prop} {k n m : Nat} {x2 : Int32} (hn : n < 24) (hm : m < 2 ^ 31) (h3 : a3 0 = nI 3) (h4 : a4 1 = 1) (h5 : a5 1 = nI n) (h9 : a9 n = nI m) (hp0 : m ≠ 0 → post 0) (hp : m = 0 → wX_check_7 post 0 al wo nu lw fo a1 a2 a3 a4 a5 a6 a7 a8 a9 a10 a11 a12 k x2 (nI 2)) : wX_check_7 post 0 al wo nu lw fo a1 a2 a3 a4 a5 a6 a7 a8 a9 a10 a11 a12 (k + 1) x2 (nI 1) := by
  have e : (0 : Int32) * 6 + a3 (0 : Int32).toNatClampNeg = nI 3 := by rw [sb_cl0, h3, pq_e0]
  refine And.intro (pk_in 0 12 (by omega)) (pk_le 3 1 (fun z => absurd z (by omega)) (fun _ => ?_) e)
  refine pq_holds1 (n := n) (m := m) (by omega) hn hm h4 h5 h9 (fun z => br_f (by decide) ?_) (fun z => br_t rfl (hp0 z))
  refine And.intro (pk_in 1 72 (by omega)) (br_f ?_ (nm_r (nI_1 1) (hp z)))
  rw [nI_clamp (by omega), h4]
  decide
theorem pq_ck0 {post : Int32 → Prop} {k s m : Nat} (hs : s < 24) (hm : m < 2 ^ 31) (h3 : a3 0 = nI 3) (h4 : a4 0 = 2) (h5 : a5 0 = nI s) (h9 : a9 s = nI m) (hp : wX_check_7 post 0 al wo nu lw fo a1 a2 a3 a4 a5 a6 a7 a8 a9 a10 a11 a12 k (nI (if m = 0 then 0 else 1)) (nI 1)) : wX_check_7 post 0 al wo nu lw fo a1 a2 a3 a4 a5 a6 a7 a8 a9 a10 a11 a12 (k + 1) (nI 0) (nI 0) := by
  have e : (0 : Int32) * 6 + a3 (0 : Int32).toNatClampNeg = nI 3 := by rw [sb_cl0, h3, pq_e0]
  have e5 : a5 (nI 0).toNatClampNeg = nI s := by rw [nI_clamp (by omega), h5]
  refine And.intro (pk_in 0 12 (by omega)) (pk_le 3 0 (fun z => absurd z (by omega)) (fun _ => ?_) e)
  refine pq_holds2 (by omega) h4 (br_f (by decide) (And.intro (pk_in 0 72 (by omega)) (br_t (by rw [nI_clamp (by omega), h4]) ?_)))
  refine And.intro (pk_in 0 72 (by omega)) (And.intro (pk_in s 24 hs e5) ?_)
  refine pk_le m 0 (fun z => nm_r (nI_1 0) ?_) (fun z => nm_r (nI_1 0) (nm_r (nI_1 0) ?_)) (by rw [e5, nI_clamp (show s < 2 ^ 31 by omega), h9])
  · rw [if_pos (by omega)] at hp
    exact hp
  · rw [if_neg (by omega)] at hp
    exact hp
theorem pq_check {post : Int32 → Prop} {lst s n : Nat} {lo hi : Int32} {cn : Nat → Nat} (hQ : pq_Q lst s n lo hi cn al a2 a3 a4 a5 a6 a7 a9) (hp1 : pq_H lst s n lo hi cn nu → post 1) (hp0 : ¬ pq_H lst s n lo hi cn nu → post 0) : wpX_check post (al, wo, nu, lw, fo, a1, a2, a3, a4, a5, a6, a7, a8, a9, a10, a11, a12) 0 := by
  obtain ⟨hs, hn, hl, h2, h3, ⟨h40, h50⟩, ⟨h41, h51⟩, ⟨h42, h52, h62⟩, hal, h7, h9⟩ := hQ
  have cs := h9 s hs
  have cN := h9 n hn
  unfold wpX_check
  refine nm_r (e' := nI 0) (by rfl) ⟨4, ?_⟩
  refine pq_ck0 hs (by omega) h3 h40 h50 cs.1 ?_
  refine pq_ck1 hn (by omega) h3 h41 h51 cN.1 (fun z => hp0 (fun h => z h.1)) (fun z => ?_)
  refine pq_ck2 h3 h42 h52 h62 (fun g => hp0 (fun h => h.2.1 g)) (fun g => hp0 (fun h => h.2.2.1 g)) (fun g1 g2 => ?_)
  refine pq_ck3 hl (by split <;> omega) h2 h3 (fun g => hp0 (fun h => ?_)) (fun g => hp1 ⟨z, g1, g2, g⟩)
  exact absurd h.2.2.2 (Nat.not_le_of_lt g)
theorem pq_s3 {post : Int32 → Prop} {k : Nat} {x2 : Int32} (h3 : a3 0 = nI 3) (hp : post x2) : wX_scoreOf_7 post 0 al wo nu lw fo a1 a2 a3 a4 a5 a6 a7 a8 a9 a10 a11 a12 (k + 1) x2 (nI 3) := by
  have e : (0 : Int32) * 6 + a3 (0 : Int32).toNatClampNeg = nI 3 := by rw [sb_cl0, h3, pq_e0]
  exact And.intro (pk_in 0 12 (by omega)) (pk_le 3 3 (fun _ => hp) (fun z => absurd z (by omega)) e)
theorem pq_s1 {post : Int32 → Prop} {k i : Nat} {x2 : Int32} (hi : i < 3) (h3 : a3 0 = nI 3) (h0 : ¬ a4 i = 0) (h2 : ¬ a4 i = 2) (h33 : ¬ a4 i = 3) (hp : wX_scoreOf_7 post 0 al wo nu lw fo a1 a2 a3 a4 a5 a6 a7 a8 a9 a10 a11 a12 k x2 (nI (i + 1))) : wX_scoreOf_7 post 0 al wo nu lw fo a1 a2 a3 a4 a5 a6 a7 a8 a9 a10 a11 a12 (k + 1) x2 (nI i) := by
  have e : (0 : Int32) * 6 + a3 (0 : Int32).toNatClampNeg = nI 3 := by rw [sb_cl0, h3, pq_e0]
  have ei := nI_clamp (show i < 2 ^ 31 by omega)
  refine And.intro (pk_in 0 12 (by omega)) (pk_le 3 i (fun z => absurd z (by omega)) (fun _ => ?_) e)
  refine And.intro (pk_in i 72 (by omega)) (br_f (by rw [ei]; exact h0) (And.intro (pk_in i 72 (by omega)) (br_f (by rw [ei]; exact h2) ?_)))
  unfold wX_scoreOf_55
  exact And.intro (pk_in i 72 (by omega)) (br_f (by rw [ei]; exact h33) (nm_r (nI_1 i) hp))
theorem pq_s0 {post : Int32 → Prop} {k s m : Nat} (hs : s < 24) (h3 : a3 0 = nI 3) (h4 : a4 0 = 2) (h5 : a5 0 = nI s) (h9 : a9 s = nI m) (hp : wX_scoreOf_7 post 0 al wo nu lw fo a1 a2 a3 a4 a5 a6 a7 a8 a9 a10 a11 a12 k (nI m) (nI 1)) : wX_scoreOf_7 post 0 al wo nu lw fo a1 a2 a3 a4 a5 a6 a7 a8 a9 a10 a11 a12 (k + 1) (nI 0) (nI 0) := by
  have e : (0 : Int32) * 6 + a3 (0 : Int32).toNatClampNeg = nI 3 := by rw [sb_cl0, h3, pq_e0]
  have ei : (nI 0).toNatClampNeg = 0 := nI_clamp (by omega)
  have e5 : a5 (nI 0).toNatClampNeg = nI s := by rw [ei, h5]
  refine And.intro (pk_in 0 12 (by omega)) (pk_le 3 0 (fun z => absurd z (by omega)) (fun _ => ?_) e)
  refine And.intro (pk_in 0 72 (by omega)) (br_f (by rw [ei, h4]; decide) (And.intro (pk_in 0 72 (by omega)) (br_t (by rw [ei, h4]) ?_)))
  unfold wX_scoreOf_41
  refine And.intro (pk_in 0 72 (by omega)) (And.intro (pk_in s 24 hs e5) (nm_r (e' := nI m) ?_ ?_))
  · rw [e5, nI_clamp (show s < 2 ^ 31 by omega), h9, nI_add, Nat.zero_add]
  · unfold wX_scoreOf_55
    exact And.intro (pk_in 0 72 (by omega)) (br_f (by rw [ei, h4]; decide) (nm_r (nI_1 0) hp))
theorem pq_scoreOf {post : Int32 → Prop} {lst s n : Nat} {lo hi : Int32} {cn : Nat → Nat} (hQ : pq_Q lst s n lo hi cn al a2 a3 a4 a5 a6 a7 a9) (hp : post (nI (cn s))) : wpX_scoreOf post (al, wo, nu, lw, fo, a1, a2, a3, a4, a5, a6, a7, a8, a9, a10, a11, a12) 0 := by
  obtain ⟨hs, hn, hl, h2, h3, ⟨h40, h50⟩, ⟨h41, h51⟩, ⟨h42, h52, h62⟩, hal, h7, h9⟩ := hQ
  unfold wpX_scoreOf
  refine nm_r (e' := nI 0) (by rfl) ⟨4, ?_⟩
  refine pq_s0 hs h3 h40 h50 (h9 s hs).1 ?_
  refine pq_s1 (by omega) h3 (by rw [h41]; decide) (by rw [h41]; decide) (by rw [h41]; decide) ?_
  refine pq_s1 (by omega) h3 (by rw [h42]; decide) (by rw [h42]; decide) (by rw [h42]; decide) ?_
  exact pq_s3 h3 hp
theorem pq_keep {post : St2 → Prop} {lst s n : Nat} {lo hi : Int32} {cn : Nat → Nat} (hQ : pq_Q lst s n lo hi cn al a2 a3 a4 a5 a6 a7 a9) (hp : post (al, wo, nu, lw, 1, a1, a2, a3, a4, a5, a6, a7, a8, a9, a10, upd a11 0 0, upd a12 0 (nI (cn s)))) : wpX_keep post (al, wo, nu, lw, 0, a1, a2, a3, a4, a5, a6, a7, a8, a9, a10, a11, a12) 0 := by
  unfold wpX_keep
  refine pq_scoreOf hQ ⟨1, br_t (by decide) ?_⟩
  unfold wX_keep_61
  refine And.intro (pk_in 0 12 (by omega)) (nm_r (e' := upd a11 0 0) (by rw [sb_cl0]) ?_)
  exact And.intro (pk_in 0 12 (by omega)) (nm_r (e' := upd a12 0 (nI (cn s))) (by rw [sb_cl0]) (nm_r (e' := (1 : Int32)) (by decide) hp))
theorem pq_p44 {post : St2 → Prop} {b : Nat} (hb : b < 2) (hp : post (al, wo, nu, lw, fo, a1, a2, a3, a4, a5, a6, a7, a8, a9, a10, a11, a12)) : ∃ n, wX_percolate_44 post (nI b) n (nI 1) al wo nu lw fo a1 a2 a3 a4 a5 a6 a7 a8 a9 a10 a11 a12 := by
  refine pk_loop (σ := Unit) (fun n i _ => wX_percolate_44 post (nI b) n (nI i) al wo nu lw fo a1 a2 a3 a4 a5 a6 a7 a8 a9 a10 a11 a12) (fun i _ => 0 < i) 12 1 () (by omega) (by omega) ?_ ?_
  · intro n _ _
    exact pk_le 12 12 (fun _ => hp) (fun z => absurd z (by omega))
  · intro n i _ hi h0 hw
    refine pk_le 12 i (fun z => absurd z (by omega)) (fun _ => ?_)
    exact br_f (pq_bit b hb i hi h0) (nm_r (nI_1 i) (hw () (by omega)))
theorem pq_perc {post : St2 → Prop} {lst s n : Nat} {lo hi : Int32} {cn : Nat → Nat} (hQ : pq_Q lst s n lo hi cn al a2 a3 a4 a5 a6 a7 a9)
    (hp1 : pq_H lst s n lo hi cn nu → ∀ b11 b12 : Nat → Int32, b11 0 = 0 → b12 0 = nI (cn s) → post (al, wo, nu, lw, 1, a1, a2, a3, a4, a5, a6, a7, a8, a9, a10, b11, b12)) (hp0 : ¬ pq_H lst s n lo hi cn nu → post (al, wo, nu, lw, 0, a1, a2, a3, a4, a5, a6, a7, a8, a9, a10, a11, a12)) : wpX_percolate post (al, wo, nu, lw, fo, a1, a2, a3, a4, a5, a6, a7, a8, a9, a10, a11, a12) := by
  have hQ' := hQ
  obtain ⟨hs, hn, hl, h2, h3, ⟨h40, h50⟩, ⟨h41, h51⟩, ⟨h42, h52, h62⟩, hal, h7, h9⟩ := hQ'
  unfold wpX_percolate
  refine pk_loop (fun n i x => wX_percolate_7 post al wo nu lw fo a1 a2 a3 a4 a5 a6 a7 a8 a9 a10 a11 a12 n x (nI i)) (fun i x => x = if lst = 0 ∨ (cn s ≠ 0 ∧ s < i) then 1 else 0) 24 0 al (by omega) ?_ ?_ ?_
  · show al = _
    rw [hal]
    by_cases l : lst = 0
    · rw [if_pos l, if_pos (Or.inl l)]
    · rw [if_neg l, if_neg (fun h => h.elim l (fun h => absurd h.2 (by omega)))]
  · intro k x hx
    refine pk_le 24 24 (fun _ => ?_) (fun z => absurd z (by omega))
    by_cases B : lst = 0 ∨ (cn s ≠ 0 ∧ s < 24)
    · rw [if_pos B] at hx
      subst hx
      by_cases H : pq_H lst s n lo hi cn nu
      · obtain ⟨m, hm⟩ := pq_p44 (b := 1) (by omega) (hp1 H (upd a11 0 0) (upd a12 0 (nI (cn s))) pk_us pk_us)
        refine ⟨m + 1, br_f (by decide) (br_t (by decide) ?_)⟩
        refine pq_check hQ (fun _ => br_f (by decide) ?_) (fun z => absurd H z)
        exact pq_keep hQ (nm_r (nI_1 0) hm)
      · obtain ⟨m, hm⟩ := pq_p44 (b := 1) (by omega) (hp0 H)
        refine ⟨m + 1, br_f (by decide) (br_t (by decide) ?_)⟩
        exact pq_check hQ (fun z => absurd z H) (fun _ => br_t rfl (nm_r (nI_1 0) hm))
    · rw [if_neg B] at hx
      subst hx
      have H : ¬ pq_H lst s n lo hi cn nu := by
        intro h
        have h4 := h.2.2.2
        by_cases g : cn s = 0
        · rw [if_pos g] at h4
          exact B (Or.inl (by omega))
        · exact B (Or.inr ⟨g, hs⟩)
      obtain ⟨m, hm⟩ := pq_p44 (b := 0) (by omega) (hp0 H)
      exact ⟨m + 1, br_f (by decide) (br_f (by decide) (nm_r (nI_1 0) hm))⟩
  · intro k i x hi0 hx hw
    have hx' : x = if lst = 0 ∨ (cn s ≠ 0 ∧ s < i) then 1 else 0 := hx
    have ei := nI_clamp (show i < 2 ^ 31 by omega)
    have c9 := h9 i hi0
    refine pk_le 24 i (fun z => absurd z (by omega)) (fun _ => And.intro (pk_in i 24 hi0) ?_)
    refine pk_le (cn i) 0 (fun z => nm_r (nI_1 i) (hw _ ?_)) (fun z => And.intro (pk_in i 24 hi0) (nm_e (nm_r (nI_1 i) (hw _ ?_)))) (by rw [ei, c9.1])
    · show x = _
      rw [hx']
      by_cases g : lst = 0 ∨ (cn s ≠ 0 ∧ s < i)
      · rw [if_pos g, if_pos (g.elim Or.inl (fun h => Or.inr ⟨h.1, by omega⟩))]
      · have g' : ¬ (lst = 0 ∨ (cn s ≠ 0 ∧ s < i + 1)) := by
          intro h
          rcases h with h | h
          · exact g (Or.inl h)
          · by_cases e : s = i
            · rw [e] at h
              omega
            · exact g (Or.inr ⟨h.1, by omega⟩)
        rw [if_neg g, if_neg g']
    · rw [ei]
      exact pq_or hx' (h7 i hi0) (by omega)
theorem pq_matches {post : Int32 → St2 → Prop} {lst s n : Nat} {lo hi : Int32} {cn : Nat → Nat} (hQ : pq_Q lst s n lo hi cn al a2 a3 a4 a5 a6 a7 a9)
    (hp1 : pq_H lst s n lo hi cn nu → ∀ b11 b12 : Nat → Int32, post 1 (al, wo, nu, lw, 1, a1, a2, a3, a4, a5, a6, a7, a8, a9, a10, b11, b12)) (hp0 : ¬ pq_H lst s n lo hi cn nu → post 0 (al, wo, nu, lw, 0, a1, a2, a3, a4, a5, a6, a7, a8, a9, a10, a11, a12)) : wpX_matches post (al, wo, nu, lw, fo, a1, a2, a3, a4, a5, a6, a7, a8, a9, a10, a11, a12) := by
  unfold wpX_matches
  exact pq_perc hQ (fun h b11 b12 _ _ => hp1 h b11 b12) hp0
theorem pq_match {post : Int32 → St2 → Prop} {lst s n : Nat} {lo hi : Int32} {cn : Nat → Nat} (hQ : pq_Q lst s n lo hi cn al a2 a3 a4 a5 a6 a7 a9)
    (hp1 : pq_H lst s n lo hi cn nu → ∀ b11 b12 : Nat → Int32, post 0 (al, wo, nu, lw, 1, a1, a2, a3, a4, a5, a6, a7, a8, a9, a10, b11, b12)) (hp0 : ¬ pq_H lst s n lo hi cn nu → post (-5) (al, wo, nu, lw, 0, a1, a2, a3, a4, a5, a6, a7, a8, a9, a10, a11, a12)) : wpX_match post (al, wo, nu, lw, fo, a1, a2, a3, a4, a5, a6, a7, a8, a9, a10, a11, a12) 0 := by
  unfold wpX_match
  refine pq_perc hQ (fun h b11 b12 e1 e2 => ?_) (fun h => ?_)
  · refine br_f (by decide) (br_t (by decide) (And.intro (pk_in 0 12 (by omega)) ?_))
    exact ek_v (P := fun r => post r _) (by rw [sb_cl0, e1]) (hp1 h b11 b12)
  · exact br_f (by decide) (br_f (by decide) (hp0 h))
theorem pq_score {post : Int32 → St2 → Prop} {lst s n : Nat} {lo hi : Int32} {cn : Nat → Nat} (hQ : pq_Q lst s n lo hi cn al a2 a3 a4 a5 a6 a7 a9)
    (hp1 : pq_H lst s n lo hi cn nu → ∀ b11 b12 : Nat → Int32, post (nI (cn s)) (al, wo, nu, lw, 1, a1, a2, a3, a4, a5, a6, a7, a8, a9, a10, b11, b12)) (hp0 : ¬ pq_H lst s n lo hi cn nu → post 0 (al, wo, nu, lw, 0, a1, a2, a3, a4, a5, a6, a7, a8, a9, a10, a11, a12)) : wpX_score post (al, wo, nu, lw, fo, a1, a2, a3, a4, a5, a6, a7, a8, a9, a10, a11, a12) 0 := by
  unfold wpX_score
  refine pq_perc hQ (fun h b11 b12 e1 e2 => ?_) (fun h => ?_)
  · refine br_f (by decide) (br_t (by decide) (And.intro (pk_in 0 12 (by omega)) ?_))
    exact ek_v (P := fun r => post r _) (by rw [sb_cl0, e2]) (hp1 h b11 b12)
  · exact br_f (by decide) (br_f (by decide) (hp0 h))
end
end
section
def pq_cn (w v t : Nat) : Nat := (if w = t then 1 else 0) + (if v = t then 1 else 0)
def pq_kf (j : Nat) : Int32 := if j = 0 then 2 else if j = 1 then 1 else 4
def pq_fs (s n : Nat) (lo : Int32) (j : Nat) : Int32 := if j = 0 then nI s else if j = 1 then nI n else lo
def pq_sd (hi : Int32) (j : Nat) : Int32 := if j = 2 then hi else 0
theorem pq_kfk : pq_kd pq_kf := by
  unfold pq_kd
  decide
section
variable {al wo nu lw fo : Int32} {a1 a2 a3 a4 a5 a6 a7 a8 a9 a10 a11 a12 : Nat → Int32}
theorem pq_229 {mc ms kc ks lst s n : Nat} {lo hi x11 x12 r : Int32} {cn : Nat → Nat} (hQ : pq_Q lst s n lo hi cn al a2 a3 a4 a5 a6 a7 a9) (hx : x11 = nI (cn s)) (h1 : pq_H lst s n lo hi cn nu → x12 = 1) (h0 : ¬ pq_H lst s n lo hi cn nu → x12 = 0) :
    wL_lawOf_229 (fun r _ => r = 1) mc ms x11 x12 r r kc ks al wo nu lw fo a1 a2 a3 a4 a5 a6 a7 a8 a9 a10 a11 a12 := by
  unfold wL_lawOf_229
  refine br_t rfl (pq_score hQ (fun h b11 b12 => ?_) (fun h => ?_))
  · refine br_f (by rw [h1 h]; decide) ?_
    unfold wL_lawOf_251
    exact br_t hx.symm rfl
  · refine br_t (h0 h) ?_
    unfold wL_lawOf_251
    exact br_t rfl rfl
theorem pq_209 {mc ms kc ks lst s n : Nat} {lo hi x11 x12 r : Int32} {cn : Nat → Nat} (hQ : pq_Q lst s n lo hi cn al a2 a3 a4 a5 a6 a7 a9) (hx : x11 = nI (cn s)) (h1 : pq_H lst s n lo hi cn nu → x12 = 1) (h0 : ¬ pq_H lst s n lo hi cn nu → x12 = 0) :
    wL_lawOf_209 (fun r _ => r = 1) mc ms x11 x12 r r kc ks al wo nu lw fo a1 a2 a3 a4 a5 a6 a7 a8 a9 a10 a11 a12 := by
  unfold wL_lawOf_209
  refine br_t rfl (pq_match hQ (fun h b11 b12 => ?_) (fun h => ?_))
  · exact br_f (by rw [h1 h]; decide) (pq_229 hQ hx h1 h0)
  · exact br_t (h0 h) (pq_229 hQ hx h1 h0)
theorem pq_192 {mc ms kc ks lst s n : Nat} {lo hi x11 z0 : Int32} {cn : Nat → Nat} (hQ : pq_Q lst s n lo hi cn al a2 a3 a4 a5 a6 a7 a9) (hx : x11 = nI (cn s)) (h1 : pq_H lst s n lo hi cn nu → z0 = 1) (h0 : ¬ pq_H lst s n lo hi cn nu → z0 = 0) :
    wL_lawOf_192 (fun r _ => r = 1) mc ms x11 z0 kc ks al wo nu lw fo a1 a2 a3 a4 a5 a6 a7 a8 a9 a10 a11 a12 := by
  unfold wL_lawOf_192
  refine pq_matches hQ (fun h b11 b12 => ?_) (fun h => ?_)
  · exact br_f (by rw [h1 h]; decide) (pq_209 hQ hx h1 h0)
  · exact br_t (h0 h) (pq_209 hQ hx h1 h0)
theorem pq_191 {mc ms kc ks lst s n : Nat} {lo hi x11 : Int32} {cn : Nat → Nat} (hQ : pq_Q lst s n lo hi cn al a2 a3 a4 a5 a6 a7 a9) (hx : x11 = nI (cn s)) (h0 : ¬ pq_H lst s n lo hi cn nu) :
    wL_lawOf_191 (fun r _ => r = 1) mc ms x11 kc ks al wo nu lw fo a1 a2 a3 a4 a5 a6 a7 a8 a9 a10 a11 a12 := by
  unfold wL_lawOf_191
  exact pq_192 hQ hx (fun h => absurd h h0) (fun _ => rfl)
theorem pq_182 {mc ms kc ks lst s n m : Nat} {lo hi x11 : Int32} {cn : Nat → Nat} (hQ : pq_Q lst s n lo hi cn al a2 a3 a4 a5 a6 a7 a9) (hx : x11 = nI (cn s)) (hm : m < 2) (h0 : pq_H lst s n lo hi cn nu → lst ≤ m) (h1 : lst ≤ m → pq_H lst s n lo hi cn nu) :
    wL_lawOf_182 (fun r _ => r = 1) mc ms (nI lst) x11 (nI m) kc ks al wo nu lw fo a1 a2 a3 a4 a5 a6 a7 a8 a9 a10 a11 a12 := by
  have hl : lst < 2 ^ 31 := hQ.2.2.1
  unfold wL_lawOf_182
  refine pk_lt m lst (fun z => ?_) (fun z => ?_)
  · exact pq_191 hQ hx (fun h => absurd (h0 h) (by omega))
  · exact pq_192 hQ hx (fun _ => rfl) (fun h => absurd (h1 z) h)
theorem pq_143 {mc ms kc ks lst s n w v p q : Nat} {lo hi : Int32} (hn : n < 4) (hw : w < 4) (hv : v < 4) (hQ : pq_Q lst s n lo hi (pq_cn w v) al a2 a3 a4 a5 a6 a7 a9) (hp : p = if w = s then 1 else 0) (hq : q = if v = s then 1 else 0) :
    wL_lawOf_143 (fun r _ => r = 1) mc ms lo hi nu (nI lst) (nI n) (nI w) (nI v) (nI q) (nI p) kc ks al wo nu lw fo a1 a2 a3 a4 a5 a6 a7 a8 a9 a10 a11 a12 := by
  unfold wL_lawOf_143
  refine nm_r (e' := nI (pq_cn w v s)) (by rw [nI_add, hp, hq]; rfl) ?_
  have c2 : pq_cn w v s ≤ 2 := (hQ.2.2.2.2.2.2.2.2.2.2 s hQ.1).2
  refine pk_eq w n (fun z => pq_191 hQ rfl (fun h => ?_)) (fun z1 => ?_)
  · have h' := h.1
    unfold pq_cn at h'
    rw [if_pos z] at h'
    omega
  refine pk_eq v n (fun z => pq_191 hQ rfl (fun h => ?_)) (fun z2 => ?_)
  · have h' := h.1
    unfold pq_cn at h'
    rw [if_pos z] at h'
    omega
  refine br_c (fun z => pq_191 hQ rfl (fun h => h.2.1 z)) (fun z3 => ?_)
  refine br_c (fun z => pq_191 hQ rfl (fun h => h.2.2.1 z)) (fun z4 => ?_)
  have cN : pq_cn w v n = 0 := by
    unfold pq_cn
    rw [if_neg z1, if_neg z2]
  refine pk_le (pq_cn w v s) 0 (fun z => ?_) (fun z => ?_)
  · have g : pq_cn w v s = 0 := by omega
    refine pq_182 (m := 0) hQ rfl (by omega) (fun h => ?_) (fun h => ⟨cN, z3, z4, ?_⟩)
    · have h' := h.2.2.2
      rw [if_pos g] at h'
      exact h'
    · rw [if_pos g]
      exact h
  · have g : ¬ pq_cn w v s = 0 := by omega
    refine pq_182 (m := 1) hQ rfl (by omega) (fun h => ?_) (fun h => ⟨cN, z3, z4, ?_⟩)
    · have h' := h.2.2.2
      rw [if_neg g] at h'
      exact h'
    · rw [if_neg g]
      exact h
theorem pq_131 {mc ms kc ks lst s n w v p : Nat} {lo hi : Int32} (hs : s < 4) (hn : n < 4) (hw : w < 4) (hv : v < 4) (hQ : pq_Q lst s n lo hi (pq_cn w v) al a2 a3 a4 a5 a6 a7 a9) (hp : p = if w = s then 1 else 0) :
    wL_lawOf_131 (fun r _ => r = 1) mc ms lo hi nu (nI lst) (nI s) (nI n) (nI w) (nI v) (nI p) kc ks al wo nu lw fo a1 a2 a3 a4 a5 a6 a7 a8 a9 a10 a11 a12 := by
  unfold wL_lawOf_131
  refine pk_eq v s (fun z => ?_) (fun z => ?_)
  · exact pq_143 (q := 1) hn hw hv hQ hp (by rw [if_pos z])
  · exact pq_143 (q := 0) hn hw hv hQ hp (by rw [if_neg z])
end
theorem pq_init {post : St2 → Prop} (hp : post (0, 0, 0, -1, 0, fun _ => 0, fun _ => 0, fun _ => 0, fun _ => 0, fun _ => 0, fun _ => 0, fun _ => 0, fun _ => 0, fun _ => 0, fun _ => 0, fun _ => 0, fun _ => 0)) : wpX_init post 12 372 (0, 0, 0, 0, 0) := by
  unfold wpX_init
  exact ⟨by omega, by omega, by omega, by omega, by omega, by omega, by omega, by omega, by omega, by omega, by omega, by omega, by omega, by omega, by omega, by omega, by omega, by omega, by omega, by omega, by omega, by omega, by omega, by omega, hp⟩
theorem pq_lawOf (p0 p1 p2 p3 p4 : Int32) : wpL_lawOf (fun r _ => r = 1) 13 389 () p0 p1 p2 p3 p4 := by
  obtain ⟨j, hj, ej⟩ := pk_andE p0 (m := 255) 8 (by decide)
  obtain ⟨s, hs, es⟩ := pk_andE p1 (m := 3) 2 (by decide)
  obtain ⟨n, hn, en⟩ := pk_andE (p1 >>> ((2 : Int32) &&& 31)) (m := 3) 2 (by decide)
  obtain ⟨w, hw, ew⟩ := pk_andE (p1 >>> ((4 : Int32) &&& 31)) (m := 3) 2 (by decide)
  obtain ⟨v, hv, ev⟩ := pk_andE (p1 >>> ((6 : Int32) &&& 31)) (m := 3) 2 (by decide)
  have ej3 : (p0 &&& 255) - (p0 &&& 255) / 3 * 3 = nI (j % 3) := by
    rw [ej]
    exact pk_rem (d := 3) (by omega) (by omega) (by omega)
  unfold wpL_lawOf
  refine ⟨by omega, by omega, 12, 372, by omega, by omega, ?_⟩
  refine pq_init (And.intro (by decide) (nm_r ej3 (nm_r es (nm_r en (nm_r ew (nm_r ev ?_))))))
  refine pq_create (lst := j % 3) (s := s) (kd := pq_kf) (fs := pq_fs s n p2) (sd := pq_sd p3) (by omega) (by omega) rfl (fun _ _ => rfl) (fun bl b1 b2 b3 b7 hK => ?_)
  refine pq_should (t := s) hK (by omega) (by omega) (by omega) pq_kfk rfl (by omega) rfl rfl rfl (fun bl b3 b4 b5 b6 b7 hK => br_t (by rfl) ?_)
  refine pq_not (t := n) hK (by omega) (by omega) (by omega) pq_kfk rfl (by omega) rfl rfl rfl (fun bl b3 b4 b5 b6 b7 hK => br_t (by rfl) ?_)
  refine pq_range hK (by omega) (by omega) (by omega) pq_kfk rfl rfl rfl rfl (fun bl b3 b4 b5 b6 b7 hK => br_t (by rfl) ?_)
  refine pq_document (fun b9 b10 h9 => ?_)
  refine pq_word (k := 0) (t := w) (by omega) (by omega) (Or.inl rfl) (fun b10 => ?_)
  refine pq_word (k := 1) (t := v) (by omega) (by omega) (Or.inr ⟨w, by omega, rfl⟩) (fun b10 => br_t (by rfl) ?_)
  obtain ⟨k1, k2, k3, k4, k5, k6⟩ := hK
  have hQ : pq_Q (j % 3) s n p2 p3 (pq_cn w v) bl b2 b3 b4 b5 b6 b7 (upd (upd b9 w (b9 w + 1)) v (upd b9 w (b9 w + 1) v + 1)) := by
    refine ⟨by omega, by omega, by omega, k2, k3, ⟨(k4 0 (by omega)).1, (k4 0 (by omega)).2.1⟩, ⟨(k4 1 (by omega)).1, (k4 1 (by omega)).2.1⟩, k4 2 (by omega), k5, fun t ht => ?_, fun t ht => ?_⟩
    · rw [k6 t ht]
      by_cases e : j % 3 ≠ 0 ∧ t = s
      · rw [if_pos ⟨e.1, by omega, e.2⟩, if_pos e]
      · rw [if_neg (fun h => e ⟨h.1, h.2.2⟩), if_neg e]
    · unfold pq_cn
      have z9 := h9 t ht
      have z9w := h9 w (by omega)
      have z9v := h9 v (by omega)
      by_cases e1 : v = t
      · subst e1
        rw [pk_us]
        by_cases e2 : w = v
        · subst e2
          rw [pk_us, z9, if_pos rfl]
          exact ⟨by decide, by omega⟩
        · rw [pk_un (Ne.symm e2), z9, if_neg e2, if_pos rfl]
          exact ⟨by decide, by omega⟩
      · rw [pk_un (Ne.symm e1)]
        by_cases e2 : w = t
        · subst e2
          rw [pk_us, z9, if_pos rfl, if_neg e1]
          exact ⟨by decide, by omega⟩
        · rw [pk_un (Ne.symm e2), z9, if_neg e2, if_neg e1]
          exact ⟨by decide, by omega⟩
  refine pk_eq w s (fun z => ?_) (fun z => ?_)
  · exact pq_131 (p := 1) hs hn hw hv hQ (by rw [if_pos z])
  · exact pq_131 (p := 0) hs hn hw hv hQ (by rw [if_neg z])
theorem pq_cell {post : Int32 → Prop} {L k : Nat} {xs : Nat → Int32} (hL : L ≤ 5) (hk : k < 5) (hp : ∀ r, post r) : wpL_cellAt post L xs () (nI k) := by
  unfold wpL_cellAt
  exact pk_le L k (fun _ => hp _) (fun z => And.intro (pk_in k L z) (hp _))
theorem i_vc (xs : Nat → Int32) (L : Nat) (hL : L ≤ 5) : wpL_law (fun r => r = 1) L xs := by
  unfold wpL_law
  refine pq_cell (k := 0) hL (by omega) (fun r1 => ?_)
  refine pq_cell (k := 1) hL (by omega) (fun r2 => ?_)
  refine pq_cell (k := 2) hL (by omega) (fun r3 => ?_)
  refine pq_cell (k := 3) hL (by omega) (fun r4 => ?_)
  refine pq_cell (k := 4) hL (by omega) (fun r5 => ?_)
  exact ⟨13, 389, by omega, by omega, pq_lawOf r1 r2 r3 r4 r5⟩
end
