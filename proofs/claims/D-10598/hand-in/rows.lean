section
/-- a place is looked up: the pure picture stops where it lies outside -/
def tw_g {ρ : Type} (i : Int32) (n : Nat) (o : Option ρ) : Option ρ := if i < 0 ∨ n ≤ i.toNatClampNeg then none else o
theorem tw_no {ρ : Type} {r : ρ} {A : Prop} (e : (none : Option ρ) = some r) : A := nomatch e
theorem tw_if {ρ : Type} {c A B : Prop} {d : Decidable c} {a b : Option ρ} {r : ρ} (h1 : a = some r → A) (h2 : b = some r → B) : (@ite (Option ρ) c d a b) = some r → (c → A) ∧ (¬ c → B) := by
  intro h
  refine ⟨fun hc => h1 ?_, fun hc => h2 ?_⟩
  · rw [if_pos hc] at h
    exact h
  · rw [if_neg hc] at h
    exact h
theorem tw_in {ρ : Type} {i : Int32} {n : Nat} {A : Prop} {o : Option ρ} {r : ρ} (h : o = some r → A) : tw_g i n o = some r → vp_in i n ∧ A := by
  intro e
  unfold tw_g at e
  by_cases c : (i < 0 ∨ n ≤ i.toNatClampNeg)
  · rw [if_pos c] at e
    exact tw_no e
  · rw [if_neg c] at e
    exact ⟨c, h e⟩
theorem tw_nm {ρ α : Type} {o : Option ρ} {r : ρ} {e : α} {P : α → Prop} (h : o = some r → P e) : o = some r → ∀ x, x = e → P x := fun z => nm_e (h z)
theorem tw_bd {ρ σ : Type} {o : Option σ} {k : σ → Option ρ} {r : ρ} {A : Prop} (h : ∀ v, o = some v → k v = some r → A) : o.bind k = some r → A := by
  intro e
  cases o with
  | none => exact tw_no e
  | some v => exact h v rfl e
section
variable {m n ct tn fc ft sd co : Int32} {a1 a2 a3 a4 a5 a6 : Nat → Int32}
/-! letters -/
def tw_xLet (c m N : Int32) (K : Nat) (a : Nat → Int32) : Option (Int32 × (Nat → Int32)) :=
  if c < 0 then some (m, a) else (if c ≤ 2 then (if m = N then none else tw_g m K (some (m + 1, upd a m.toNatClampNeg c))) else some (m, a))
theorem tw_sPat {post : Int32 → St2 → Prop} {c : Int32} {r : Int32 × (Nat → Int32)} (hp : ∀ v, post v (r.1, n, ct, tn, fc, ft, 0, co, r.2, a2, a3, a4, a5, a6)) :
    tw_xLet c m 16 16 a1 = some r → wpX_pattern post (m, n, ct, tn, fc, ft, 0, co, a1, a2, a3, a4, a5, a6) c :=
  tw_if (fun e => br_f (by decide) (by cases e; exact hp _))
    (tw_if (fun e => br_t rfl (tw_if tw_no (tw_in (tw_nm (tw_nm (fun e => by cases e; exact hp _)))) e)) (fun e => br_f (by decide) (by cases e; exact hp _)))
theorem tw_sFeed {post : Int32 → St2 → Prop} {c : Int32} {r : Int32 × (Nat → Int32)} (hp : ∀ v, post v (m, r.1, ct, tn, fc, ft, 0, co, a1, r.2, a3, a4, a5, a6)) :
    tw_xLet c n 48 48 a2 = some r → wpX_feed post (m, n, ct, tn, fc, ft, 0, co, a1, a2, a3, a4, a5, a6) c :=
  tw_if (fun e => br_f (by decide) (by cases e; exact hp _))
    (tw_if (fun e => br_t rfl (tw_if tw_no (tw_in (tw_nm (tw_nm (fun e => by cases e; exact hp _)))) e)) (fun e => br_f (by decide) (by cases e; exact hp _)))
/-! feedPattern -/
def tw_xFp (m n : Int32) (a1 : Nat → Int32) : Nat → Int32 → (Nat → Int32) → Option (Int32 × (Nat → Int32))
  | 0 => fun _ _ => none
  | k + 1 => fun x a2 => if m ≤ x then some (n + m, a2) else tw_g x 16 (tw_g (n + x) 48 (tw_xFp m n a1 k (x + 1) (upd a2 (n + x).toNatClampNeg (a1 x.toNatClampNeg))))
theorem tw_sFp {post : Int32 → St2 → Prop} : ∀ (k : Nat) (x : Int32) (a2 : Nat → Int32) (r : Int32 × (Nat → Int32)), post r.1 (m, r.1, ct, tn, fc, ft, 0, co, a1, r.2, a3, a4, a5, a6) →
    tw_xFp m n a1 k x a2 = some r → wX_feedPattern_19 post m n ct tn fc ft sd co k x a1 a2 a3 a4 a5 a6
  | 0, _, _, _, _ => fun e => tw_no e
  | k + 1, x, a2, r, hp => tw_if (tw_nm (fun e => by cases e; exact hp)) (tw_in (tw_in (tw_nm (tw_nm (tw_sFp k _ _ r hp)))))
def tw_xFeedP (m n : Int32) (a1 a2 : Nat → Int32) : Option (Int32 × (Nat → Int32)) := if n + m ≤ 48 then tw_xFp m n a1 20 0 a2 else none
theorem tw_sFeedP {post : Int32 → St2 → Prop} {r : Int32 × (Nat → Int32)} (hp : post r.1 (m, r.1, ct, tn, fc, ft, 0, co, a1, r.2, a3, a4, a5, a6)) :
    tw_xFeedP m n a1 a2 = some r → wpX_feedPattern post (m, n, ct, tn, fc, ft, sd, co, a1, a2, a3, a4, a5, a6) :=
  tw_if (fun e => Exists.intro 20 (tw_sFp 20 0 a2 r hp e)) tw_no
/-! rotateInto -/
def tw_xRi (i m : Int32) (a1 : Nat → Int32) : Nat → Int32 → (Nat → Int32) → Option (Nat → Int32)
  | 0 => fun _ _ => none
  | k + 1 => fun x a3 => if m ≤ x then some a3 else
      (if m ≤ i + x then tw_g (i + x - m) 16 (tw_g x 16 (tw_xRi i m a1 k (x + 1) (upd a3 x.toNatClampNeg (a1 (i + x - m).toNatClampNeg))))
       else tw_g (i + x) 16 (tw_g x 16 (tw_xRi i m a1 k (x + 1) (upd a3 x.toNatClampNeg (a1 (i + x).toNatClampNeg)))))
theorem tw_sRi {post : St2 → Prop} {i : Int32} : ∀ (k : Nat) (x : Int32) (a3 : Nat → Int32) (r : Nat → Int32), post (m, n, ct, tn, fc, ft, sd, co, a1, a2, r, a4, a5, a6) →
    tw_xRi i m a1 k x a3 = some r → wX_rotateInto_2 post i m n ct tn fc ft sd co k x a1 a2 a3 a4 a5 a6
  | 0, _, _, _, _ => fun e => tw_no e
  | k + 1, x, a3, r, hp => tw_if (fun e => by cases e; exact hp)
      (tw_nm (tw_if (tw_in (tw_in (tw_nm (tw_nm (tw_sRi k _ _ r hp))))) (tw_in (tw_in (tw_nm (tw_nm (tw_sRi k _ _ r hp)))))))
theorem tw_sRot {post : St2 → Prop} {i : Int32} {r : Nat → Int32} (hp : post (m, n, ct, tn, fc, ft, sd, co, a1, a2, r, a4, a5, a6)) (e : tw_xRi i m a1 20 0 a3 = some r) :
    wpX_rotateInto post (m, n, ct, tn, fc, ft, sd, co, a1, a2, a3, a4, a5, a6) i := Exists.intro 20 (tw_sRi 20 0 a3 r hp e)
/-! smaller, findEnd, cutWord -/
def tw_xSm (a b o : Int32) : Int32 := if o = 0 then (if b ≤ a then 0 else 1) else (if a ≤ b then 0 else 1)
theorem tw_sSm {post : Int32 → Prop} {a b o : Int32} (hp : post (tw_xSm a b o)) : wpX_smaller post (m, n, ct, tn, fc, ft, sd, co, a1, a2, a3, a4, a5, a6) a b o :=
  br_c (fun h => br_c (fun g => by rw [tw_xSm, if_pos h, if_pos g] at hp; exact hp) (fun g => by rw [tw_xSm, if_pos h, if_neg g] at hp; exact hp))
    (fun h => br_c (fun g => by rw [tw_xSm, if_neg h, if_pos g] at hp; exact hp) (fun g => by rw [tw_xSm, if_neg h, if_neg g] at hp; exact hp))
def tw_xFe (o m : Int32) (a3 : Nat → Int32) : Nat → Int32 → Int32 → Int32 → Int32 → Int32 → Option (Int32 × Int32)
  | 0 => fun _ _ _ _ _ => none
  | k + 1 => fun x2 x3 x4 x5 x6 => if 64 ≤ x6 then some (x2, x5) else if m ≤ x3 + x4 then some (x2, x5) else tw_g (x3 + x4) 16 (tw_g (x2 + x4) 16
      (if a3 (x3 + x4).toNatClampNeg = a3 (x2 + x4).toNatClampNeg then
        (if x4 + 1 = x5 then tw_xFe o m a3 k x2 (x3 + x5) 0 x5 (x6 + 1) else tw_xFe o m a3 k x2 x3 (x4 + 1) x5 (x6 + 1))
      else (if tw_xSm (a3 (x3 + x4).toNatClampNeg) (a3 (x2 + x4).toNatClampNeg) o = 0 then tw_xFe o m a3 k x3 (x3 + 1) 0 1 (x6 + 1)
        else tw_xFe o m a3 k x2 (x3 + x4 + 1) 0 (x3 + x4 + 1 - x2) (x6 + 1))))
theorem tw_sFe {post : St2 → Prop} {o : Int32} : ∀ (k : Nat) (x2 x3 x4 x5 x6 : Int32) (r : Int32 × Int32), post (m, n, ct, tn, r.1, r.2, sd, co, a1, a2, a3, a4, a5, a6) →
    tw_xFe o m a3 k x2 x3 x4 x5 x6 = some r → wX_findEnd_13 post o m n ct tn fc ft sd co a1 a2 a3 a4 a5 a6 k x2 x3 x4 x5 x6
  | 0, _, _, _, _, _, _, _ => fun e => tw_no e
  | k + 1, x2, x3, x4, x5, x6, r, hp => tw_if (fun e => by cases e; exact hp) (tw_if (fun e => by cases e; exact hp) (tw_in (tw_nm (tw_in (tw_nm (tw_if
      (tw_nm (tw_if (tw_nm (tw_nm (tw_sFe k _ _ _ _ _ r hp))) (tw_nm (tw_sFe k _ _ _ _ _ r hp))))
      (fun e => tw_sSm (tw_if (tw_nm (tw_nm (tw_sFe k _ _ _ _ _ r hp))) (tw_nm (tw_nm (tw_nm (tw_sFe k _ _ _ _ _ r hp)))) e))))))))
theorem tw_sFind {post : St2 → Prop} {o : Int32} {r : Int32 × Int32} (hp : post (m, n, ct, tn, r.1, r.2, sd, co, a1, a2, a3, a4, a5, a6)) (e : tw_xFe o m a3 20 0 1 0 1 0 = some r) :
    wpX_findEnd post (m, n, ct, tn, fc, ft, sd, co, a1, a2, a3, a4, a5, a6) o := Exists.intro 20 (tw_sFe 20 0 1 0 1 0 r hp e)
def tw_xCw (m : Int32) (a3 : Nat → Int32) : Option (Int32 × Int32 × Int32 × Int32) :=
  (tw_xFe 0 m a3 20 0 1 0 1 0).bind (fun p => (tw_xFe 1 m a3 20 0 1 0 1 0).bind (fun q => if q.1 ≤ p.1 then some (p.1, p.2, q.1, q.2) else some (q.1, q.2, q.1, q.2)))
theorem tw_sCw {post : St2 → Prop} {r : Int32 × Int32 × Int32 × Int32} (hp : post (m, n, r.1, r.2.1, r.2.2.1, r.2.2.2, sd, co, a1, a2, a3, a4, a5, a6)) :
    tw_xCw m a3 = some r → wpX_cutWord post (m, n, ct, tn, fc, ft, sd, co, a1, a2, a3, a4, a5, a6) :=
  tw_bd (fun p ep => tw_bd (fun q eq e => tw_sFind (tw_sFind (tw_if (fun e => by cases e; exact hp) (fun e => by cases e; exact hp) e) eq) ep))
/-! periodic, rightDifference, leftFits, search -/
def tw_xP20 (ct tn : Int32) (a3 : Nat → Int32) : Nat → Int32 → Option Int32
  | 0 => fun _ => none
  | k + 1 => fun x => if ct ≤ x then some 1 else tw_g x 16 (tw_g (x + tn) 16 (if a3 x.toNatClampNeg = a3 (x + tn).toNatClampNeg then tw_xP20 ct tn a3 k (x + 1) else some 0))
theorem tw_sP20 {post : Int32 → Prop} : ∀ (k : Nat) (x : Int32) (r : Int32), post r →
    tw_xP20 ct tn a3 k x = some r → wX_periodic_20 post m n ct tn fc ft sd co a1 a2 a3 a4 a5 a6 k x
  | 0, _, _, _ => fun e => tw_no e
  | k + 1, x, r, hp => tw_if (fun e => by cases e; exact hp) (tw_in (tw_in (tw_if (tw_nm (tw_sP20 k _ r hp)) (fun e => by cases e; exact hp))))
def tw_xPer (m ct tn : Int32) (a3 : Nat → Int32) : Option Int32 := if ct + tn ≤ m then tw_xP20 ct tn a3 20 0 else some 0
theorem tw_sPer {post : Int32 → Prop} {r : Int32} (hp : post r) : tw_xPer m ct tn a3 = some r → wpX_periodic post (m, n, ct, tn, fc, ft, sd, co, a1, a2, a3, a4, a5, a6) :=
  tw_if (fun e => Exists.intro 20 (tw_sP20 20 0 r hp e)) (fun e => by cases e; exact hp)
def tw_xR20 (m j : Int32) (a2 a3 : Nat → Int32) : Nat → Int32 → Int32 → Option Int32
  | 0 => fun _ _ => none
  | k + 1 => fun x y => if 16 ≤ y then some x else if m ≤ x then some x else tw_g x 16 (tw_g (x + j) 48 (if a3 x.toNatClampNeg = a2 (x + j).toNatClampNeg then tw_xR20 m j a2 a3 k (x + 1) (y + 1) else some x))
theorem tw_sR20 {post : Int32 → Prop} {j : Int32} : ∀ (k : Nat) (x y : Int32) (r : Int32), post r →
    tw_xR20 m j a2 a3 k x y = some r → wX_rightDifference_20 post j m n ct tn fc ft sd co a1 a2 a3 a4 a5 a6 k x y
  | 0, _, _, _, _ => fun e => tw_no e
  | k + 1, x, y, r, hp => tw_if (fun e => by cases e; exact hp) (tw_if (fun e => by cases e; exact hp) (tw_in (tw_in (tw_if (tw_nm (tw_nm (tw_sR20 k _ _ r hp))) (fun e => by cases e; exact hp)))))
def tw_xRd (m ct : Int32) (a2 a3 : Nat → Int32) (j p : Int32) : Option Int32 := if ct ≤ p then tw_xR20 m j a2 a3 20 p 0 else tw_xR20 m j a2 a3 20 ct 0
theorem tw_sRd {post : Int32 → Prop} {j p r : Int32} (hp : post r) : tw_xRd m ct a2 a3 j p = some r → wpX_rightDifference post (m, n, ct, tn, fc, ft, sd, co, a1, a2, a3, a4, a5, a6) j p :=
  tw_if (fun e => Exists.intro 20 (tw_sR20 20 p 0 r hp e)) (fun e => Exists.intro 20 (tw_sR20 20 ct 0 r hp e))
def tw_xL7 (j p : Int32) (a2 a3 : Nat → Int32) : Nat → Int32 → Option Int32
  | 0 => fun _ => none
  | k + 1 => fun x => if x < p then some 1 else tw_g x 16 (tw_g (x + j) 48 (if a3 x.toNatClampNeg = a2 (x + j).toNatClampNeg then tw_xL7 j p a2 a3 k (x + (-1)) else some 0))
theorem tw_sL7 {post : Int32 → Prop} {j p : Int32} : ∀ (k : Nat) (x : Int32) (r : Int32), post r →
    tw_xL7 j p a2 a3 k x = some r → wX_leftFits_7 post j p m n ct tn fc ft sd co a1 a2 a3 a4 a5 a6 k x
  | 0, _, _, _ => fun e => tw_no e
  | k + 1, x, r, hp => tw_if (fun e => by cases e; exact hp) (tw_in (tw_in (tw_if (tw_nm (tw_sL7 k _ r hp)) (fun e => by cases e; exact hp))))
theorem tw_sLf {post : Int32 → Prop} {j p r : Int32} (hp : post r) (e : tw_xL7 j p a2 a3 20 (ct - 1) = some r) : wpX_leftFits post (m, n, ct, tn, fc, ft, sd, co, a1, a2, a3, a4, a5, a6) j p :=
  nm_e (Exists.intro 20 (tw_sL7 20 (ct - 1) r hp e))
def tw_xS57 (m n ct : Int32) (a2 a3 : Nat → Int32) (ag sh : Int32) : Nat → Int32 → Int32 → Int32 → Option Int32
  | 0 => fun _ _ _ => none
  | k + 1 => fun x6 x7 x8 => if 48 < x8 then some (-1) else if n < x7 + m then some (-1) else (tw_xRd m ct a2 a3 x7 x6).bind (fun r8 =>
      if m ≤ r8 then (tw_xL7 x7 x6 a2 a3 20 (ct - 1)).bind (fun r10 => if r10 = 0 then
          (if ag = 0 then tw_xS57 m n ct a2 a3 ag sh k 0 (x7 + sh) (x8 + 1) else tw_xS57 m n ct a2 a3 ag sh k (m - sh) (x7 + sh) (x8 + 1)) else some x7)
      else tw_xS57 m n ct a2 a3 ag sh k 0 (x7 + r8 - ct + 1) (x8 + 1))
theorem tw_sS57 {post : Int32 → Prop} {ag sh : Int32} : ∀ (k : Nat) (x6 x7 x8 : Int32) (r : Int32), post r →
    tw_xS57 m n ct a2 a3 ag sh k x6 x7 x8 = some r → wX_search_57 post ag sh m n ct tn fc ft sd co a1 a2 a3 a4 a5 a6 k x6 x7 x8
  | 0, _, _, _, _, _ => fun e => tw_no e
  | k + 1, x6, x7, x8, r, hp => tw_if (fun e => by cases e; exact hp) (tw_if (fun e => by cases e; exact hp) (tw_bd (fun r8 e8 e => tw_sRd (tw_if
      (tw_bd (fun r10 e10 e => tw_sLf (tw_if (tw_nm (tw_if (tw_nm (tw_sS57 k _ _ _ r hp)) (tw_nm (tw_nm (tw_sS57 k _ _ _ r hp))))) (fun e => by cases e; exact hp) e) e10))
      (tw_nm (tw_nm (tw_sS57 k _ _ _ r hp))) e) e8)))
def tw_xSe (m n ct tn : Int32) (a2 a3 : Nat → Int32) (p : Int32) : Option Int32 :=
  (tw_xPer m ct tn a3).bind (fun r1 => if r1 = 0 then (if ct ≤ m - ct then tw_xS57 m n ct a2 a3 r1 (m - ct + 1) 20 0 p 0 else tw_xS57 m n ct a2 a3 r1 (ct + 1) 20 0 p 0)
    else tw_xS57 m n ct a2 a3 r1 tn 20 0 p 0)
theorem tw_sSe {post : Int32 → Prop} {p r : Int32} (hp : post r) : tw_xSe m n ct tn a2 a3 p = some r → wpX_search post (m, n, ct, tn, fc, ft, sd, co, a1, a2, a3, a4, a5, a6) p :=
  tw_bd (fun r1 e1 e => tw_sPer (tw_nm (tw_if
      (tw_if (tw_nm (fun e => Exists.intro 20 (tw_sS57 20 0 p 0 r hp e))) (tw_nm (fun e => Exists.intro 20 (tw_sS57 20 0 p 0 r hp e))))
      (fun e => Exists.intro 20 (tw_sS57 20 0 p 0 r hp e))) e) e1)
/-! findAll -/
def tw_xF37 (m n ct tn : Int32) (a2 a3 : Nat → Int32) : Nat → Int32 → Int32 → Int32 → (Nat → Int32) → Option (Int32 × (Nat → Int32))
  | 0 => fun _ _ _ _ => none
  | k + 1 => fun x1 x2 co a4 => if 48 ≤ x2 then some (co, a4) else if x1 < 0 then some (co, a4) else tw_g co 48 ((tw_xSe m n ct tn a2 a3 (x1 + 1)).bind (fun v =>
      tw_xF37 m n ct tn a2 a3 k v (x2 + 1) (co + 1) (upd a4 co.toNatClampNeg x1)))
theorem tw_sF37 {post : St2 → Prop} : ∀ (k : Nat) (x1 x2 co : Int32) (a4 : Nat → Int32) (r : Int32 × (Nat → Int32)), post (m, n, ct, tn, fc, ft, 1, r.1, a1, a2, a3, r.2, a5, a6) →
    tw_xF37 m n ct tn a2 a3 k x1 x2 co a4 = some r → wX_findAll_37 post m n ct tn fc ft sd k x1 x2 co a1 a2 a3 a4 a5 a6
  | 0, _, _, _, _, _, _ => fun e => tw_no e
  | k + 1, x1, x2, co, a4, r, hp => tw_if (fun e => by cases e; exact hp) (tw_if (fun e => by cases e; exact hp) (tw_in (tw_nm (tw_nm (tw_bd (fun v ev e => tw_sSe (tw_nm (tw_sF37 k _ _ _ _ r hp) e) ev))))))
def tw_xFa (m n : Int32) (a1 a2 a3 a4 : Nat → Int32) : Option ((Int32 × Int32 × Int32 × Int32) × (Int32 × (Nat → Int32)) × (Nat → Int32)) :=
  if m ≤ 0 then some ((0, 0, 0, 0), (0, a4), a3) else (tw_xRi 0 m a1 20 0 a3).bind (fun w => (tw_xCw m w).bind (fun c => (tw_xSe m n c.1 c.2.1 a2 w 0).bind (fun v =>
    (tw_xF37 m n c.1 c.2.1 a2 w 20 v 0 0 a4).bind (fun z => some (c, z, w)))))
theorem tw_sFa {post : St2 → Prop} {r : (Int32 × Int32 × Int32 × Int32) × (Int32 × (Nat → Int32)) × (Nat → Int32)}
    (hp : post (m, n, r.1.1, r.1.2.1, r.1.2.2.1, r.1.2.2.2, 1, r.2.1.1, a1, a2, r.2.2, r.2.1.2, a5, a6)) :
    tw_xFa m n a1 a2 a3 a4 = some r → wpX_findAll post (m, n, 0, 0, 0, 0, 0, co, a1, a2, a3, a4, a5, a6) :=
  by
  intro e
  unfold tw_xFa at e
  refine br_t rfl ?_
  revert e
  refine tw_if (fun e => by cases e; exact hp) ?_
  refine tw_bd (fun w ew => ?_)
  refine tw_bd (fun c ec => ?_)
  refine tw_bd (fun v ev => ?_)
  refine tw_bd (fun z ez e => ?_)
  refine tw_sRot ?_ ew
  refine tw_sCw ?_ ec
  refine tw_sSe ?_ ev
  refine Exists.intro 20 (tw_sF37 20 v 0 0 a4 z ?_ ez)
  cases e
  exact hp
/-! fillBorders, period -/
def tw_xB28 (a1 a5 : Nat → Int32) (x1 : Int32) : Nat → Int32 → Int32 → Option Int32
  | 0 => fun _ _ => none
  | k + 1 => fun x2 x3 => if 16 ≤ x3 then some x2 else if x2 < 0 then some x2 else tw_g x2 16 (tw_g (x1 - 1) 16
      (if a1 x2.toNatClampNeg = a1 (x1 - 1).toNatClampNeg then some x2 else tw_g x2 17 (tw_xB28 a1 a5 x1 k (a5 x2.toNatClampNeg) (x3 + 1))))
theorem tw_sB28 {post : St2 → Prop} {J : Int32 → (Nat → Int32) → (Nat → Int32) → (Nat → Int32) → (Nat → Int32) → (Nat → Int32) → (Nat → Int32) → Prop} {x1 : Int32} :
    ∀ (k : Nat) (x2 x3 : Int32) (r : Int32), wX_fillBorders_68 post J x1 r m n ct tn fc ft sd co a1 a2 a3 a4 a5 a6 →
    tw_xB28 a1 a5 x1 k x2 x3 = some r → wX_fillBorders_28 post J x1 m n ct tn fc ft sd co a1 a2 a3 a4 a5 a6 k x2 x3
  | 0, _, _, _, _ => fun e => tw_no e
  | k + 1, x2, x3, r, hp => tw_if (fun e => by cases e; exact hp) (tw_if (fun e => by cases e; exact hp) (tw_in (tw_in (tw_if (fun e => by cases e; exact hp) (tw_in (tw_nm (tw_nm (tw_sB28 k _ _ r hp))))))))
def tw_xB9 (m : Int32) (a1 : Nat → Int32) : Nat → Int32 → (Nat → Int32) → Option (Nat → Int32)
  | 0 => fun _ _ => none
  | k + 1 => fun x a5 => if m < x then some a5 else tw_g (x - 1) 17 ((tw_xB28 a1 a5 x 20 (a5 (x - 1).toNatClampNeg) 0).bind (fun b =>
      tw_g x 17 (tw_xB9 m a1 k (x + 1) (upd a5 x.toNatClampNeg (b + 1)))))
theorem tw_sB9 {post : St2 → Prop} : ∀ (k : Nat) (x : Int32) (a5 : Nat → Int32) (r : Nat → Int32), post (m, n, ct, tn, fc, ft, sd, co, a1, a2, a3, a4, r, a6) →
    tw_xB9 m a1 k x a5 = some r → wX_fillBorders_9 post m n ct tn fc ft sd co k x a1 a2 a3 a4 a5 a6
  | 0, _, _, _, _ => fun e => tw_no e
  | k + 1, x, a5, r, hp => tw_if (fun e => by cases e; exact hp) (tw_in (tw_nm (tw_bd (fun b eb e => Exists.intro 20 (tw_sB28 20 _ 0 b (tw_in (tw_nm (tw_nm (tw_sB9 k _ _ r hp))) e) eb)))))
theorem tw_sFb {post : St2 → Prop} {r : Nat → Int32} (hp : post (m, n, ct, tn, fc, ft, sd, co, a1, a2, a3, a4, r, a6)) (e : tw_xB9 m a1 20 1 (upd a5 0 (-1)) = some r) :
    wpX_fillBorders post (m, n, ct, tn, fc, ft, sd, co, a1, a2, a3, a4, a5, a6) := nm_e (Exists.intro 20 (tw_sB9 20 1 _ r hp e))
def tw_xPd (m : Int32) (a1 a5 : Nat → Int32) : Option (Int32 × (Nat → Int32)) :=
  if m = 0 then some (-4, a5) else (tw_xB9 m a1 20 1 (upd a5 0 (-1))).bind (fun b => tw_g m 17 (some (m - b m.toNatClampNeg, b)))
theorem tw_sPd {post : Int32 → St2 → Prop} {r : Int32 × (Nat → Int32)} (hp : post r.1 (m, n, ct, tn, fc, ft, sd, co, a1, a2, a3, a4, r.2, a6)) :
    tw_xPd m a1 a5 = some r → wpX_period post (m, n, ct, tn, fc, ft, sd, co, a1, a2, a3, a4, a5, a6) :=
  tw_if (fun e => by cases e; exact hp) (tw_bd (fun b eb e => tw_sFb (tw_in (fun e => by cases e; exact hp) e) eb))
/-! cutFactors, factors, factor -/
def tw_xC110 (x5 x6 : Int32) : Nat → Int32 → Int32 → Int32 → (Nat → Int32) → Option (Int32 × Int32 × (Nat → Int32))
  | 0 => fun _ _ _ _ => none
  | k + 1 => fun x1 x2 x7 a6 => if 16 ≤ x7 then some (x1, x2, a6) else if x5 < x2 then some (x1, x2, a6) else tw_g x1 16
      (tw_xC110 x5 x6 k (x1 + 1) (x2 + x6) (x7 + 1) (upd a6 x1.toNatClampNeg x6))
theorem tw_sC110 {post : Int32 → St2 → Prop} {J : Int32 → Int32 → Int32 → (Nat → Int32) → (Nat → Int32) → (Nat → Int32) → (Nat → Int32) → (Nat → Int32) → (Nat → Int32) → Prop} {x3 x5 x6 : Int32} :
    ∀ (k : Nat) (x1 x2 x7 : Int32) (a6 : Nat → Int32) (r : Int32 × Int32 × (Nat → Int32)), J r.1 r.2.1 (x3 + 1) a1 a2 a3 a4 a5 r.2.2 →
    tw_xC110 x5 x6 k x1 x2 x7 a6 = some r → wX_cutFactors_110 post J x3 x5 x6 m n ct tn fc ft sd co k x1 x2 x7 a1 a2 a3 a4 a5 a6
  | 0, _, _, _, _, _, _ => fun e => tw_no e
  | k + 1, x1, x2, x7, a6, r, hp => tw_if (tw_nm (fun e => by cases e; exact hp)) (tw_if (tw_nm (fun e => by cases e; exact hp)) (tw_in (tw_nm (tw_nm (tw_nm (tw_nm (tw_sC110 k _ _ _ _ r hp)))))))
def tw_xC31 (m : Int32) (a1 : Nat → Int32) (x2 : Int32) : Nat → Int32 → Int32 → Int32 → Option (Int32 × Int32)
  | 0 => fun _ _ _ => none
  | k + 1 => fun x4 x5 x6 => if 16 ≤ x6 then some (x4, x5) else if m ≤ x4 then some (x4, x5) else tw_g x5 16 (tw_g x4 16
      (if a1 x4.toNatClampNeg < a1 x5.toNatClampNeg then some (x4, x5) else tw_g x5 16 (tw_g x4 16
        (if a1 x4.toNatClampNeg ≤ a1 x5.toNatClampNeg then tw_xC31 m a1 x2 k (x4 + 1) (x5 + 1) (x6 + 1) else tw_xC31 m a1 x2 k (x4 + 1) x2 (x6 + 1)))))
theorem tw_sC31 {post : Int32 → St2 → Prop} {J : Int32 → Int32 → Int32 → (Nat → Int32) → (Nat → Int32) → (Nat → Int32) → (Nat → Int32) → (Nat → Int32) → (Nat → Int32) → Prop} {x1 x2 x3 : Int32} :
    ∀ (k : Nat) (x4 x5 x6 : Int32) (r : Int32 × Int32), (∃ f : Nat, wX_cutFactors_110 post J x3 r.2 (r.1 - r.2) m n ct tn fc ft sd co f x1 x2 0 a1 a2 a3 a4 a5 a6) →
    tw_xC31 m a1 x2 k x4 x5 x6 = some r → wX_cutFactors_31 post J x1 x2 x3 m n ct tn fc ft sd co a1 a2 a3 a4 a5 a6 k x4 x5 x6
  | 0, _, _, _, _, _ => fun e => tw_no e
  | k + 1, x4, x5, x6, r, hp => tw_if (tw_nm (fun e => by cases e; exact hp)) (tw_if (tw_nm (fun e => by cases e; exact hp)) (tw_in (tw_in (tw_if (tw_nm (fun e => by cases e; exact hp)) (tw_in (tw_in (tw_if
      (tw_nm (tw_nm (tw_nm (tw_sC31 k _ _ _ r hp)))) (tw_nm (tw_nm (tw_sC31 k _ _ _ r hp)))))))))) 
def tw_xC6 (m : Int32) (a1 : Nat → Int32) : Nat → Int32 → Int32 → Int32 → (Nat → Int32) → Option (Int32 × (Nat → Int32))
  | 0 => fun _ _ _ _ => none
  | k + 1 => fun x1 x2 x3 a6 => if 16 ≤ x3 then some (x1, a6) else if m ≤ x2 then some (x1, a6) else (tw_xC31 m a1 x2 20 (x2 + 1) x2 0).bind (fun p =>
      (tw_xC110 p.2 (p.1 - p.2) 20 x1 x2 0 a6).bind (fun q => tw_xC6 m a1 k q.1 q.2.1 (x3 + 1) q.2.2))
theorem tw_sC6 {post : Int32 → St2 → Prop} : ∀ (k : Nat) (x1 x2 x3 : Int32) (a6 : Nat → Int32) (r : Int32 × (Nat → Int32)), post r.1 (m, n, ct, tn, fc, ft, sd, co, a1, a2, a3, a4, a5, r.2) →
    tw_xC6 m a1 k x1 x2 x3 a6 = some r → wX_cutFactors_6 post m n ct tn fc ft sd co k x1 x2 x3 a1 a2 a3 a4 a5 a6
  | 0, _, _, _, _, _, _ => fun e => tw_no e
  | k + 1, x1, x2, x3, a6, r, hp => tw_if (fun e => by cases e; exact hp) (tw_if (fun e => by cases e; exact hp) (tw_nm (tw_bd (fun p ep => tw_bd (fun q eq e =>
      Exists.intro 20 (tw_sC31 20 _ _ 0 p (Exists.intro 20 (tw_sC110 20 x1 x2 0 a6 q (tw_sC6 k _ _ _ _ r hp e) eq)) ep))))))
theorem tw_sCf {post : Int32 → St2 → Prop} {r : Int32 × (Nat → Int32)} (hp : post r.1 (m, n, ct, tn, fc, ft, sd, co, a1, a2, a3, a4, a5, r.2)) (e : tw_xC6 m a1 20 0 0 0 a6 = some r) :
    wpX_cutFactors post (m, n, ct, tn, fc, ft, sd, co, a1, a2, a3, a4, a5, a6) := Exists.intro 20 (tw_sC6 20 0 0 0 a6 r hp e)
theorem tw_sFs {post : Int32 → St2 → Prop} {r : Int32 × (Nat → Int32)} (hp : post r.1 (m, n, ct, tn, fc, ft, sd, co, a1, a2, a3, a4, a5, r.2)) (e : tw_xC6 m a1 20 0 0 0 a6 = some r) :
    wpX_factors post (m, n, ct, tn, fc, ft, sd, co, a1, a2, a3, a4, a5, a6) := by
  unfold wpX_factors
  exact tw_sCf hp e
def tw_xFc (m : Int32) (a1 a6 : Nat → Int32) (p : Int32) : Option (Int32 × (Nat → Int32)) :=
  (tw_xC6 m a1 20 0 0 0 a6).bind (fun q => if p < 0 then some (-4, q.2) else if p < q.1 then tw_g p 16 (some (q.2 p.toNatClampNeg, q.2)) else some (-4, q.2))
theorem tw_sFc {post : Int32 → St2 → Prop} {p : Int32} {r : Int32 × (Nat → Int32)} (hp : post r.1 (m, n, ct, tn, fc, ft, sd, co, a1, a2, a3, a4, a5, r.2)) :
    tw_xFc m a1 a6 p = some r → wpX_factor post (m, n, ct, tn, fc, ft, sd, co, a1, a2, a3, a4, a5, a6) p :=
  tw_bd (fun q eq e => tw_sCf (tw_if (fun e => by cases e; exact hp) (tw_if (tw_in (fun e => by cases e; exact hp)) (fun e => by cases e; exact hp)) e) eq)
/-! turned, leastRotation -/
def tw_xT4 (m : Int32) (a1 : Nat → Int32) : Nat → Int32 → Int32 → Option Int32
  | 0 => fun _ _ => none
  | k + 1 => fun x y => if 3 ≤ y then tw_g x 16 (some (a1 x.toNatClampNeg)) else if x < m then tw_g x 16 (some (a1 x.toNatClampNeg)) else tw_xT4 m a1 k (x - m) (y + 1)
theorem tw_sT4 {post : Int32 → Prop} : ∀ (k : Nat) (x y : Int32) (r : Int32), post r → tw_xT4 m a1 k x y = some r → wX_turned_4 post m n ct tn fc ft sd co a1 a2 a3 a4 a5 a6 k x y
  | 0, _, _, _, _ => fun e => tw_no e
  | k + 1, x, y, r, hp => tw_if (tw_in (fun e => by cases e; exact hp)) (tw_if (tw_in (fun e => by cases e; exact hp)) (tw_nm (tw_nm (tw_sT4 k _ _ r hp))))
theorem tw_sTu {post : Int32 → Prop} {p r : Int32} (hp : post r) (e : tw_xT4 m a1 20 p 0 = some r) : wpX_turned post (m, n, ct, tn, fc, ft, sd, co, a1, a2, a3, a4, a5, a6) p :=
  Exists.intro 20 (tw_sT4 20 p 0 r hp e)
def tw_xL19 (m : Int32) (a1 : Nat → Int32) : Nat → Int32 → Int32 → Int32 → Int32 → Option Int32
  | 0 => fun _ _ _ _ => none
  | k + 1 => fun x1 x2 x3 x4 => if 80 ≤ x4 then (if x2 ≤ x1 then some x2 else some x1) else if m ≤ x1 then (if x2 ≤ x1 then some x2 else some x1) else
      if m ≤ x2 then (if x2 ≤ x1 then some x2 else some x1) else if m ≤ x3 then (if x2 ≤ x1 then some x2 else some x1) else
      (tw_xT4 m a1 20 (x1 + x3) 0).bind (fun r7 => (tw_xT4 m a1 20 (x2 + x3) 0).bind (fun r8 => if r7 = r8 then tw_xL19 m a1 k x1 x2 (x3 + 1) (x4 + 1) else
        (if r7 ≤ r8 then (if x1 = x2 + x3 + 1 then tw_xL19 m a1 k x1 (x2 + x3 + 1 + 1) 0 (x4 + 1) else tw_xL19 m a1 k x1 (x2 + x3 + 1) 0 (x4 + 1))
        else (if x1 + x3 + 1 = x2 then tw_xL19 m a1 k (x1 + x3 + 1) (x2 + 1) 0 (x4 + 1) else tw_xL19 m a1 k (x1 + x3 + 1) x2 0 (x4 + 1)))))
theorem tw_sL119 {post : Int32 → Prop} {x1 x2 r : Int32} (hp : post r) : (if x2 ≤ x1 then some x2 else some x1) = some r → wX_leastRotation_119 post x1 x2 m n ct tn fc ft sd co a1 a2 a3 a4 a5 a6 :=
  tw_if (fun e => by cases e; exact hp) (fun e => by cases e; exact hp)
theorem tw_sL19 {post : Int32 → Prop} : ∀ (k : Nat) (x1 x2 x3 x4 : Int32) (r : Int32), post r →
    tw_xL19 m a1 k x1 x2 x3 x4 = some r → wX_leastRotation_19 post m n ct tn fc ft sd co a1 a2 a3 a4 a5 a6 k x1 x2 x3 x4
  | 0, _, _, _, _, _, _ => fun e => tw_no e
  | k + 1, x1, x2, x3, x4, r, hp => tw_if (tw_sL119 hp) (tw_if (tw_sL119 hp) (tw_if (tw_sL119 hp) (tw_if (tw_sL119 hp) (tw_bd (fun r7 e7 => tw_bd (fun r8 e8 e => tw_sTu (tw_sTu (tw_if
      (tw_nm (tw_nm (tw_sL19 k _ _ _ _ r hp)))
      (tw_if (tw_nm (tw_if (tw_nm (tw_nm (tw_sL19 k _ _ _ _ r hp))) (tw_nm (tw_sL19 k _ _ _ _ r hp))))
        (tw_nm (tw_if (tw_nm (tw_nm (tw_sL19 k _ _ _ _ r hp))) (tw_nm (tw_sL19 k _ _ _ _ r hp))))) e) e8) e7))))))
def tw_xLr (m : Int32) (a1 : Nat → Int32) : Option Int32 := if m = 0 then some (-4) else tw_xL19 m a1 20 0 1 0 0
theorem tw_sLr {post : Int32 → Prop} {r : Int32} (hp : post r) : tw_xLr m a1 = some r → wpX_leastRotation post (m, n, ct, tn, fc, ft, sd, co, a1, a2, a3, a4, a5, a6) :=
  tw_if (fun e => by cases e; exact hp) (fun e => Exists.intro 20 (tw_sL19 20 0 1 0 0 r hp e))
/-! overlap -/
def tw_xO47 (m : Int32) (a1 a2 a5 : Nat → Int32) (x2 : Int32) : Nat → Int32 → Int32 → Option Int32
  | 0 => fun _ _ => none
  | k + 1 => fun x1 x3 => if 16 < x3 then some (x1 + 1) else if x1 < 0 then some (x1 + 1) else if x1 = m then tw_g x1 17 (tw_xO47 m a1 a2 a5 x2 k (a5 x1.toNatClampNeg) (x3 + 1))
      else tw_g x1 16 (tw_g x2 48 (if a1 x1.toNatClampNeg = a2 x2.toNatClampNeg then some (x1 + 1) else tw_g x1 17 (tw_xO47 m a1 a2 a5 x2 k (a5 x1.toNatClampNeg) (x3 + 1))))
theorem tw_sO47 {post : Int32 → St2 → Prop} {J : Int32 → Int32 → Prop} {x2 : Int32} : ∀ (k : Nat) (x1 x3 : Int32) (r : Int32), J r (x2 + 1) →
    tw_xO47 m a1 a2 a5 x2 k x1 x3 = some r → wX_overlap_47 post J x2 m n ct tn fc ft sd co a1 a2 a3 a4 a5 a6 k x1 x3
  | 0, _, _, _, _ => fun e => tw_no e
  | k + 1, x1, x3, r, hp => tw_if (tw_nm (tw_nm (fun e => by cases e; exact hp))) (tw_if (tw_nm (tw_nm (fun e => by cases e; exact hp))) (tw_if (tw_in (tw_nm (tw_nm (tw_sO47 k _ _ r hp))))
      (tw_in (tw_in (tw_if (tw_nm (tw_nm (fun e => by cases e; exact hp))) (tw_in (tw_nm (tw_nm (tw_sO47 k _ _ r hp)))))))))
def tw_xO8 (m n : Int32) (a1 a2 a5 : Nat → Int32) : Nat → Int32 → Int32 → Option Int32
  | 0 => fun _ _ => none
  | k + 1 => fun x1 x2 => if n ≤ x2 then (if m = 0 then some 0 else some x1) else if x1 = m then
      (if m = 0 then (tw_xO47 m a1 a2 a5 x2 20 0 0).bind (fun y => tw_xO8 m n a1 a2 a5 k y (x2 + 1))
        else tw_g m 17 ((tw_xO47 m a1 a2 a5 x2 20 (a5 m.toNatClampNeg) 0).bind (fun y => tw_xO8 m n a1 a2 a5 k y (x2 + 1))))
      else (tw_xO47 m a1 a2 a5 x2 20 x1 0).bind (fun y => tw_xO8 m n a1 a2 a5 k y (x2 + 1))
theorem tw_sO8 {post : Int32 → St2 → Prop} : ∀ (k : Nat) (x1 x2 : Int32) (r : Int32), post r (m, n, ct, tn, fc, ft, sd, co, a1, a2, a3, a4, a5, a6) →
    tw_xO8 m n a1 a2 a5 k x1 x2 = some r → wX_overlap_8 post m n ct tn fc ft sd co a1 a2 a3 a4 a5 a6 k x1 x2
  | 0, _, _, _, _ => fun e => tw_no e
  | k + 1, x1, x2, r, hp => tw_if (tw_if (fun e => by cases e; exact hp) (fun e => by cases e; exact hp)) (tw_if
      (tw_if (tw_bd (fun y ey e => Exists.intro 20 (tw_sO47 20 0 0 y (tw_sO8 k _ _ r hp e) ey)))
        (tw_in (tw_nm (tw_bd (fun y ey e => Exists.intro 20 (tw_sO47 20 _ 0 y (tw_sO8 k _ _ r hp e) ey))))))
      (tw_bd (fun y ey e => Exists.intro 20 (tw_sO47 20 x1 0 y (tw_sO8 k _ _ r hp e) ey))))
def tw_xOv (m n : Int32) (a1 a2 a5 : Nat → Int32) : Option Int32 := (tw_xB9 m a1 20 1 (upd a5 0 (-1))).bind (fun b => tw_xO8 m n a1 a2 b 20 0 0)
theorem tw_sOv {post : Int32 → St2 → Prop} {r : Int32} (hp : ∀ b, post r (m, n, ct, tn, fc, ft, sd, co, a1, a2, a3, a4, b, a6)) : tw_xOv m n a1 a2 a5 = some r → wpX_overlap post (m, n, ct, tn, fc, ft, sd, co, a1, a2, a3, a4, a5, a6) :=
  tw_bd (fun b eb e => tw_sFb (Exists.intro 20 (tw_sO8 20 0 0 r (hp _) e)) eb)
end
end
section
section
variable {m n ct tn fc ft sd co : Int32} {a1 a2 a3 a4 a5 a6 : Nat → Int32}
theorem tw_sOc {post : Int32 → St2 → Prop} {r : (Int32 × Int32 × Int32 × Int32) × (Int32 × (Nat → Int32)) × (Nat → Int32)}
    (hp : post r.2.1.1 (m, n, r.1.1, r.1.2.1, r.1.2.2.1, r.1.2.2.2, 1, r.2.1.1, a1, a2, r.2.2, r.2.1.2, a5, a6)) (e : tw_xFa m n a1 a2 a3 a4 = some r) :
    wpX_occurrences post (m, n, 0, 0, 0, 0, 0, co, a1, a2, a3, a4, a5, a6) := by
  unfold wpX_occurrences
  exact tw_sFa hp e
end
/-- all that the law asks of the object, from the three letters taken in -/
def tw_xAll (m n : Int32) (a1 a2 : Nat → Int32) : Option (Int32 × Int32 × Int32 × Int32 × Int32 × Int32 × Int32) :=
  (tw_xFeedP m n a1 a2).bind (fun p => (tw_xFa m p.1 a1 p.2 (fun _ => 0) (fun _ => 0)).bind (fun q => (tw_xPd m a1 (fun _ => 0)).bind (fun e => (tw_xC6 m a1 20 0 0 0 (fun _ => 0)).bind (fun f =>
    (tw_xFc m a1 f.2 0).bind (fun g => (tw_xLr m a1).bind (fun h => (tw_xOv m p.1 a1 p.2 e.2).bind (fun o => some (p.1, q.2.1.1, e.1, f.1, g.1, h, o))))))))
def tw_xLaw (a b c : Int32) : Option (Int32 × Int32 × Int32 × Int32 × Int32 × Int32 × Int32) :=
  (tw_xLet a 0 16 16 (fun _ => 0)).bind (fun p => (tw_xLet b p.1 16 16 p.2).bind (fun q => (tw_xLet c 0 48 48 (fun _ => 0)).bind (fun t => tw_xAll q.1 t.1 q.2 t.2)))
/-- the law's checks of the seven answers -/
def tw_K (post : Int32 → St0 → Prop) (a b c : Int32) (r : Int32 × Int32 × Int32 × Int32 × Int32 × Int32 × Int32) : Prop :=
  (a < 0 → wL_lawOf_82 post 7 175 a b c r.1 r.2.1 r.2.2.1 r.2.2.2.1 r.2.2.2.2.1 r.2.2.2.2.2.1 r.2.2.2.2.2.2 (1 + 6) (14 + 161)) ∧
  (¬ a < 0 → ((2 < a → wL_lawOf_82 post 7 175 a b c r.1 r.2.1 r.2.2.1 r.2.2.2.1 r.2.2.2.2.1 r.2.2.2.2.2.1 r.2.2.2.2.2.2 (1 + 6) (14 + 161)) ∧
    (¬ 2 < a → wL_lawOf_83 post 7 175 a b c r.1 r.2.1 r.2.2.1 r.2.2.2.1 r.2.2.2.2.1 r.2.2.2.2.2.1 r.2.2.2.2.2.2 1 (1 + 6) (14 + 161))))
theorem tw_init {post : St2 → Prop} {u0 u1 u2 u3 u4 u5 u6 u7 : Int32} (h : post (u0, u1, u2, u3, u4, u5, u6, u7, (fun _ => 0), (fun _ => 0), (fun _ => 0), (fun _ => 0), (fun _ => 0), (fun _ => 0))) :
    wpX_init post 6 161 (u0, u1, u2, u3, u4, u5, u6, u7) :=
  And.intro (by decide) (And.intro (by decide) (And.intro (by decide) (And.intro (by decide) (And.intro (by decide) (And.intro (by decide)
    (And.intro (by decide) (And.intro (by decide) (And.intro (by decide) (And.intro (by decide) (And.intro (by decide) (And.intro (by decide) h)))))))))))
theorem tw_top {post : Int32 → St0 → Prop} {a b c : Int32} {r : Int32 × Int32 × Int32 × Int32 × Int32 × Int32 × Int32} (hK : tw_K post a b c r) :
    tw_xLaw a b c = some r → wpL_lawOf post 7 175 () a b c :=
  tw_bd (fun p ep => tw_bd (fun q eq => tw_bd (fun t et => tw_bd (fun v ev => tw_bd (fun w ew => tw_bd (fun x ex => tw_bd (fun f ef => tw_bd (fun g eg => tw_bd (fun h eh => tw_bd (fun o eo e => by
    cases e
    refine And.intro (by decide) (And.intro (by decide) (Exists.intro 6 (Exists.intro 161 (And.intro (by decide) (And.intro (by decide) (tw_init ?_))))))
    refine tw_sPat (fun _ => ?_) ep
    refine tw_sPat (fun _ => ?_) eq
    refine tw_sFeed (fun _ => ?_) et
    refine tw_sFeedP ?_ ev
    refine tw_sOc ?_ ew
    refine tw_sPd ?_ ex
    refine tw_sFs ?_ ef
    refine tw_sFc ?_ eg
    refine tw_sLr ?_ eh
    refine tw_sOv (fun _ => ?_) eo
    exact hK))))))))))
end
section
/-- a letter as the object sees it: 3 stands for all that are refused -/
def tw_n (x : Int32) : Int32 := if x < 0 then 3 else if x ≤ 2 then x else 3
/-- the seven answers -/
def tw_e (x y z : Int32) : Int32 × Int32 × Int32 × Int32 × Int32 × Int32 × Int32 :=
  if x = 3 ∧ y = 3 then ((if z = 3 then 0 else 1), 0, -4, 0, -4, -4, 0)
  else if x = 3 ∨ y = 3 then ((if z = 3 then 1 else 2), (if z = (if x = 3 then y else x) then 2 else 1), 1, 1, 1, 0, 1)
  else ((if z = 3 then 2 else 3), (if x = y ∧ z = x then 2 else 1), (if x = y then 1 else 2), (if x < y then 1 else 2), (if x < y then 2 else 1), (if y < x then 1 else 0), 2)
def tw_q (o : Option (Int32 × Int32 × Int32 × Int32 × Int32 × Int32 × Int32)) (r : Int32 × Int32 × Int32 × Int32 × Int32 × Int32 × Int32) : Bool := match o with
  | none => false
  | some v => decide (v.1 = r.1 ∧ v.2.1 = r.2.1 ∧ v.2.2.1 = r.2.2.1 ∧ v.2.2.2.1 = r.2.2.2.1 ∧ v.2.2.2.2.1 = r.2.2.2.2.1 ∧ v.2.2.2.2.2.1 = r.2.2.2.2.2.1 ∧ v.2.2.2.2.2.2 = r.2.2.2.2.2.2)
theorem tw_qs {o : Option (Int32 × Int32 × Int32 × Int32 × Int32 × Int32 × Int32)} {r : Int32 × Int32 × Int32 × Int32 × Int32 × Int32 × Int32} (h : tw_q o r = true) : o = some r := by
  cases o with
  | none => exact nomatch h
  | some v =>
    obtain ⟨v1, v2, v3, v4, v5, v6, v7⟩ := v
    obtain ⟨r1, r2, r3, r4, r5, r6, r7⟩ := r
    obtain ⟨h1, h2, h3, h4, h5, h6, h7⟩ := of_decide_eq_true h
    dsimp only at h1 h2 h3 h4 h5 h6 h7
    rw [h1, h2, h3, h4, h5, h6, h7]
theorem tw_fb : (([0, 1, 2, 3] : List Int32).all (fun x => ([0, 1, 2, 3] : List Int32).all (fun y => ([0, 1, 2, 3] : List Int32).all (fun z => tw_q (tw_xLaw x y z) (tw_e x y z))))) = true := by decide +kernel
theorem tw_f (x : Int32) (hx : x ∈ ([0, 1, 2, 3] : List Int32)) (y : Int32) (hy : y ∈ ([0, 1, 2, 3] : List Int32)) (z : Int32) (hz : z ∈ ([0, 1, 2, 3] : List Int32)) : tw_xLaw x y z = some (tw_e x y z) :=
  tw_qs (List.all_eq_true.mp (List.all_eq_true.mp (List.all_eq_true.mp tw_fb x hx) y hy) z hz)
theorem tw_cs (x : Int32) : (x = 0 ∨ x = 1 ∨ x = 2) ∨ (x < 0 ∨ 2 < x) := by
  by_cases h : x < 0
  · exact Or.inr (Or.inl h)
  · by_cases g : 2 < x
    · exact Or.inr (Or.inr g)
    · obtain ⟨j, hj, e⟩ := nI_of2 (x := x) (M := 2) (n := 2) rfl h (Int32.not_lt.mp g)
      refine Or.inl ?_
      rw [e]
      match j, hj with
      | 0, _ => exact Or.inl rfl
      | 1, _ => exact Or.inr (Or.inl rfl)
      | 2, _ => exact Or.inr (Or.inr rfl)
theorem tw_nout {x : Int32} (h : x < 0 ∨ 2 < x) : tw_n x = 3 := by
  unfold tw_n
  by_cases g : x < 0
  · rw [if_pos g]
  · rw [if_neg g, if_neg (fun z => Int32.not_lt.mpr z (h.resolve_left g))]
theorem tw_nmem (x : Int32) : tw_n x ∈ ([0, 1, 2, 3] : List Int32) := by
  rcases tw_cs x with (rfl | rfl | rfl) | h
  · decide
  · decide
  · decide
  · rw [tw_nout h]
    decide
theorem tw_let (c m N : Int32) (K : Nat) (a : Nat → Int32) : tw_xLet c m N K a = tw_xLet (tw_n c) m N K a := by
  rcases tw_cs c with (rfl | rfl | rfl) | h
  · rfl
  · rfl
  · rfl
  · rw [tw_nout h]
    unfold tw_xLet
    rw [if_neg (show ¬ (3 : Int32) < 0 by decide), if_neg (show ¬ (3 : Int32) ≤ 2 by decide)]
    by_cases g : c < 0
    · rw [if_pos g]
    · rw [if_neg g, if_neg (fun z => Int32.not_lt.mpr z (h.resolve_left g))]
theorem tw_ok (a b c : Int32) : tw_xLaw a b c = some (tw_e (tw_n a) (tw_n b) (tw_n c)) := by
  rw [← tw_f _ (tw_nmem a) _ (tw_nmem b) _ (tw_nmem c)]
  unfold tw_xLaw
  rw [tw_let a, tw_let c]
  congr 1
  funext p
  rw [tw_let b]
theorem tw_ot {a : Int32} {X Y : Prop} (h : a < 0 ∨ 2 < a) (x : X) : (a < 0 → X) ∧ (¬ a < 0 → ((2 < a → X) ∧ (¬ 2 < a → Y))) :=
  ⟨fun _ => x, fun g => ⟨fun _ => x, fun k => absurd (h.resolve_left g) k⟩⟩
theorem tw_fin (a b c : Int32) : tw_K (fun r _ => r = 1) a b c (tw_e (tw_n a) (tw_n b) (tw_n c)) := by
  rcases tw_cs a with (rfl | rfl | rfl) | ha <;> rcases tw_cs b with (rfl | rfl | rfl) | hb <;> rcases tw_cs c with (rfl | rfl | rfl) | hc <;>
    (try rw [tw_nout ha]) <;> (try rw [tw_nout hb]) <;> (try rw [tw_nout hc]) <;>
    repeat' (first
      | exact rfl
      | refine br_t (by decide) ?_
      | refine br_f (by decide) ?_
      | refine nm_e ?_
      | refine tw_ot ha ?_
      | refine tw_ot hb ?_
      | refine tw_ot hc ?_
      | refine br_c (fun _ => ?_) (fun _ => ?_))
theorem tw_cell {post : Int32 → Prop} {L : Nat} {xs : Nat → Int32} {p : Int32} (k : Nat) (hp : p = nI k) (hk : k < 3) (h : ∀ v, post v) : wpL_cellAt post L xs () p := by
  subst hp
  refine br_c (fun _ => h _) (fun g => ⟨?_, h _⟩)
  have hk' : k < L := by
    rcases Nat.lt_or_ge k L with z | z
    · exact z
    · exact absurd (nI_le z (by omega)) g
  by_cases hL : L < 2 ^ 31
  · exact vp_in_nI hk' hL
  · exact vp_in_iff.mpr (by rw [nI_toInt (by omega)]; omega)
theorem i_vc (xs : Nat → Int32) (L : Nat) (hL : L ≤ 3) : wpL_law (fun r => r = 1) L xs :=
  tw_cell 0 rfl (by decide) (fun a => tw_cell 1 rfl (by decide) (fun b => tw_cell 2 rfl (by decide) (fun c =>
    Exists.intro 7 (Exists.intro 175 (And.intro (by decide) (And.intro (by decide) (tw_top (tw_fin a b c) (tw_ok a b c))))))))
end
