/-! what comes behind and ahead in a list of addresses; buckets; codes of groups -/
def suc : List Nat → Nat → Option Nat
  | [], _ => none
  | a :: l, e => if a = e then l.head? else suc l e
def prd (l : List Nat) (e : Nat) : Option Nat := suc l.reverse e
theorem suc_mid {e : Nat} {post : List Nat} : ∀ {pre : List Nat}, e ∉ pre → suc (pre ++ e :: post) e = post.head?
  | [], _ => by simp [suc]
  | a :: pre, h => by
    have h1 : ¬ a = e := fun q => h (by simp [q])
    have h2 : e ∉ pre := fun q => h (List.mem_cons_of_mem _ q)
    show (if a = e then (pre ++ e :: post).head? else suc (pre ++ e :: post) e) = post.head?
    rw [if_neg h1, suc_mid h2]
theorem suc_out {e : Nat} : ∀ {l : List Nat}, e ∉ l → suc l e = none
  | [], _ => rfl
  | a :: l, h => by
    have h1 : ¬ a = e := fun q => h (by simp [q])
    have h2 : e ∉ l := fun q => h (List.mem_cons_of_mem _ q)
    show (if a = e then l.head? else suc l e) = none
    rw [if_neg h1, suc_out h2]
theorem prd_mid {e : Nat} {pre post : List Nat} (h : e ∉ post) : prd (pre ++ e :: post) e = pre.getLast? := by
  unfold prd
  rw [List.reverse_append, List.reverse_cons, List.append_assoc, List.singleton_append, suc_mid (by simpa using h), List.head?_reverse]
theorem split_at {l : List Nat} {e : Nat} (hn : l.Nodup) (h : e ∈ l) : ∃ pre post, l = pre ++ e :: post ∧ e ∉ pre ∧ e ∉ post := by
  obtain ⟨pre, post, rfl⟩ := List.append_of_mem h
  rw [List.nodup_append] at hn
  refine ⟨pre, post, rfl, fun q => hn.2.2 e q e (by simp) rfl, fun q => ?_⟩
  have := hn.2.1
  rw [List.nodup_cons] at this
  exact this.1 q
theorem nodup_rev {l : List Nat} (h : l.Nodup) : l.reverse.Nodup := List.pairwise_reverse.mpr (List.Pairwise.imp Ne.symm h)
theorem suc_mem {l : List Nat} {e x : Nat} (hn : l.Nodup) (h : suc l e = some x) : e ∈ l ∧ x ∈ l := by
  by_cases he : e ∈ l
  · obtain ⟨pre, post, rfl, h1, h2⟩ := split_at hn he
    rw [suc_mid h1] at h
    refine ⟨he, ?_⟩
    cases post with
    | nil => cases h
    | cons b post => cases h; simp
  · rw [suc_out he] at h; cases h
/-- one more behind -/
theorem suc_app {l : List Nat} {e q : Nat} (hn : l.Nodup) (he : e ∈ l) : suc (l ++ [q]) e = if suc l e = none then some q else suc l e := by
  obtain ⟨pre, post, rfl, h1, h2⟩ := split_at hn he
  rw [List.append_assoc, List.cons_append, suc_mid h1, suc_mid h1]
  cases post with
  | nil => rfl
  | cons b post => rfl
theorem suc_new {l : List Nat} {q : Nat} (h : q ∉ l) : suc (l ++ [q]) q = none := by
  rw [suc_mid h]; rfl
theorem prd_app {l : List Nat} {e q : Nat} (hn : l.Nodup) (he : e ∈ l) (hq : e ≠ q) : prd (l ++ [q]) e = prd l e := by
  obtain ⟨pre, post, rfl, h1, h2⟩ := split_at hn he
  rw [List.append_assoc, List.cons_append, prd_mid (by simp [h2, hq]), prd_mid h2]
theorem prd_new {l : List Nat} {q : Nat} : prd (l ++ [q]) q = l.getLast? := prd_mid (by simp)
theorem suc_last {l : List Nat} {e : Nat} (hn : l.Nodup) (he : e ∈ l) : suc l e = none ↔ l.getLast? = some e := by
  obtain ⟨pre, post, rfl, h1, h2⟩ := split_at hn he
  rw [suc_mid h1]
  cases post with
  | nil => simp
  | cons b post =>
    simp only [List.head?_cons, reduceCtorEq, false_iff]
    have h9 : (pre ++ e :: b :: post).getLast? = (b :: post).getLast? := by
      rw [List.getLast?_append, List.getLast?_cons_cons]
      cases hq : (b :: post).getLast? with
      | none => simp at hq
      | some y => rfl
    rw [h9]
    intro h
    exact h2 (List.mem_of_getLast? h)
theorem prd_first {l : List Nat} {e : Nat} (hn : l.Nodup) (he : e ∈ l) : prd l e = none ↔ l.head? = some e := by
  unfold prd
  rw [suc_last (nodup_rev hn) (List.mem_reverse.mpr he), List.getLast?_reverse]
/-- one less, at its place -/
theorem suc_del {pre post : List Nat} {x e : Nat} (hn : (pre ++ x :: post).Nodup) (he : e ∈ pre ++ post) : suc (pre ++ post) e = if suc (pre ++ x :: post) e = some x then post.head? else suc (pre ++ x :: post) e := by
  have hx : x ∉ pre ∧ x ∉ post := by
    rw [List.nodup_append, List.nodup_cons] at hn
    exact ⟨fun q => hn.2.2 x q x (by simp) rfl, hn.2.1.1⟩
  have hn2 : (pre ++ post).Nodup := by
    rw [List.nodup_append, List.nodup_cons] at hn
    rw [List.nodup_append]
    exact ⟨hn.1, hn.2.1.2, fun a ha b hb => hn.2.2 a ha b (List.mem_cons_of_mem _ hb)⟩
  rcases List.mem_append.mp he with h | h
  · obtain ⟨p1, p2, rfl⟩ := List.append_of_mem h
    have h1 : e ∉ p1 := by
      rw [List.append_assoc, List.nodup_append] at hn2
      exact fun q => hn2.2.2 e q e (by simp) rfl
    rw [List.append_assoc, List.cons_append, suc_mid h1, List.append_assoc, List.cons_append, suc_mid h1]
    cases p2 with
    | nil => simp
    | cons b p2 =>
      have : ¬ b = x := fun q => hx.1 (by simp [q])
      simp [this]
  · obtain ⟨p1, p2, rfl⟩ := List.append_of_mem h
    have h1 : e ∉ pre ++ p1 := by
      rw [← List.append_assoc, List.nodup_append] at hn2
      exact fun q => hn2.2.2 e q e (by simp) rfl
    have hex : e ≠ x := fun q => hx.2 (by simp [q])
    have h2 : e ∉ pre ++ x :: p1 := by
      intro q
      rcases List.mem_append.mp q with q | q
      · exact h1 (List.mem_append_left _ q)
      · rcases List.mem_cons.mp q with q | q
        · exact hex q
        · exact h1 (List.mem_append_right _ q)
    rw [← List.append_assoc, suc_mid h1, ← List.cons_append, ← List.append_assoc, suc_mid h2, if_neg]
    intro q
    cases p2 with
    | nil => cases q
    | cons b p2 => cases q; exact hx.2 (by simp)
theorem prd_del {pre post : List Nat} {x e : Nat} (hn : (pre ++ x :: post).Nodup) (he : e ∈ pre ++ post) : prd (pre ++ post) e = if prd (pre ++ x :: post) e = some x then pre.getLast? else prd (pre ++ x :: post) e := by
  unfold prd
  have e1 : (pre ++ x :: post).reverse = post.reverse ++ x :: pre.reverse := by simp
  rw [List.reverse_append, e1, suc_del (by rw [← e1]; exact nodup_rev hn) (by simpa [or_comm] using he), List.head?_reverse]
/-! groups by codes -/
def hN (c : Nat) : Nat := 100 * (c / 49) + 10 * (c / 7 % 7) + c % 7
abbrev grp (c : Nat) : List Value := [.int (nI (c / 49)), .int (nI (c / 7 % 7)), .int (nI (c % 7))]
theorem hN_lt {c : Nat} (h : c < 147) : hN c < 300 := by
  unfold hN
  omega
theorem code_eq {c e : Nat} (h1 : c / 49 = e / 49) (h2 : c / 7 % 7 = e / 7 % 7) (h3 : c % 7 = e % 7) : c = e := by omega
theorem hN_inj {c e : Nat} (h : hN c = hN e) (hc : c < 147) (he : e < 147) : c = e := by
  unfold hN at h
  omega
abbrev Ent : Type := Nat × Nat × Int32
/-- the addresses of the bucket j at the capacity cap, in the order in which they came -/
def bkt (es : List Ent) (cap j : Nat) : List Nat := (es.filter (fun x => hN x.2.1 % cap == j)).map (·.1)
abbrev ads (es : List Ent) : List Nat := es.map (·.1)
theorem bkt_app (a b : List Ent) (cap j : Nat) : bkt (a ++ b) cap j = bkt a cap j ++ bkt b cap j := by
  unfold bkt
  rw [List.filter_append, List.map_append]
theorem bkt_one (x : Ent) (cap j : Nat) : bkt [x] cap j = if hN x.2.1 % cap = j then [x.1] else [] := by
  unfold bkt
  by_cases h : hN x.2.1 % cap = j
  · simp [h]
  · simp [h]
theorem bkt_sub (es : List Ent) (cap j : Nat) : List.Sublist (bkt es cap j) (ads es) := (List.filter_sublist).map _
theorem bkt_nodup {es : List Ent} (h : (ads es).Nodup) (cap j : Nat) : (bkt es cap j).Nodup := (bkt_sub es cap j).nodup h
theorem bkt_mem {es : List Ent} {cap j e : Nat} (h : e ∈ bkt es cap j) : ∃ x ∈ es, x.1 = e ∧ hN x.2.1 % cap = j := by
  obtain ⟨x, h1, h2⟩ := List.mem_map.mp h
  obtain ⟨h3, h4⟩ := List.mem_filter.mp h1
  exact ⟨x, h3, h2, by simpa using h4⟩
theorem mem_bkt {es : List Ent} {cap : Nat} {x : Ent} (h : x ∈ es) : x.1 ∈ bkt es cap (hN x.2.1 % cap) := List.mem_map.mpr ⟨x, List.mem_filter.mpr ⟨h, by simp⟩, rfl⟩
theorem ads_inj {es : List Ent} (h : (ads es).Nodup) {x y : Ent} (hx : x ∈ es) (hy : y ∈ es) (e : x.1 = y.1) : x = y := by
  induction es with
  | nil => cases hx
  | cons a l ih =>
    unfold ads at h
    rw [List.map_cons, List.nodup_cons] at h
    rcases List.mem_cons.mp hx with h1 | h1 <;> rcases List.mem_cons.mp hy with h2 | h2
    · rw [h1, h2]
    · exact absurd (List.mem_map.mpr ⟨y, h2, by rw [← e, h1]⟩) h.1
    · exact absurd (List.mem_map.mpr ⟨x, h1, by rw [e, h2]⟩) h.1
    · exact ih h.2 h1 h2
/-- a list without doubles among another is no longer -/
theorem nodup_len : ∀ {l r : List Nat}, l.Nodup → (∀ x ∈ l, x ∈ r) → l.length ≤ r.length
  | [], _, _, _ => Nat.zero_le _
  | a :: l, r, hn, h => by
    rw [List.nodup_cons] at hn
    have h1 : a ∈ r := h a (by simp)
    have h2 : l.length ≤ (r.erase a).length := nodup_len hn.2 (fun x hx => (List.mem_erase_of_ne (fun q => hn.1 (by rw [← q]; exact hx))).mpr (h x (List.mem_cons_of_mem _ hx)))
    rw [List.length_erase_of_mem h1] at h2
    have h3 : 0 < r.length := List.length_pos_of_mem h1
    show l.length + 1 ≤ r.length
    omega
def cods (es : List Ent) : List Nat := es.map (·.2.1)
theorem bkt_small (k : Nat) (hk : k ∈ [32, 64, 128, 256]) : ∀ j, j < k → ((List.range 147).filter (fun c => hN c % k == j)).length ≤ 7 := by
  have h : ∀ k ∈ [32, 64, 128, 256], ∀ j ∈ List.range k, ((List.range 147).filter (fun c => hN c % k == j)).length ≤ 7 := by decide +kernel
  exact fun j hj => h k hk j (List.mem_range.mpr hj)
theorem bkt_len {es : List Ent} {cap j : Nat} (hc : ∀ x ∈ es, x.2.1 < 147) (hn : (cods es).Nodup) (hk : cap ∈ [32, 64, 128, 256]) (hj : j < cap) : (bkt es cap j).length ≤ 7 := by
  have h1 : (bkt es cap j).length = ((es.filter (fun x => hN x.2.1 % cap == j)).map (·.2.1)).length := by simp [bkt]
  rw [h1]
  refine Nat.le_trans (nodup_len (r := (List.range 147).filter (fun c => hN c % cap == j)) ?_ (fun c hm => ?_)) (bkt_small cap hk j hj)
  · exact ((List.filter_sublist).map _).nodup hn
  · obtain ⟨x, hx, rfl⟩ := List.mem_map.mp hm
    obtain ⟨h3, h4⟩ := List.mem_filter.mp hx
    exact List.mem_filter.mpr ⟨List.mem_range.mpr (hc x h3), h4⟩
theorem es_len {es : List Ent} (hc : ∀ x ∈ es, x.2.1 < 147) (hn : (cods es).Nodup) : es.length ≤ 147 := by
  have := nodup_len (l := cods es) (r := List.range 147) hn (fun c hm => by
    obtain ⟨x, hx, rfl⟩ := List.mem_map.mp hm
    exact List.mem_range.mpr (hc x hx))
  simpa [cods] using this
/-- what a code has -/
def lkp : List Ent → Nat → Option Ent
  | [], _ => none
  | x :: l, c => if x.2.1 = c then some x else lkp l c
theorem lkp_some {c : Nat} : ∀ {es : List Ent} {x : Ent}, lkp es c = some x → x ∈ es ∧ x.2.1 = c
  | [], _, h => by cases h
  | y :: l, x, h => by
    unfold lkp at h
    split at h
    · rename_i hc; cases h; exact ⟨List.mem_cons_self, hc⟩
    · exact ⟨List.mem_cons_of_mem _ (lkp_some h).1, (lkp_some h).2⟩
theorem lkp_none {c : Nat} : ∀ {es : List Ent}, lkp es c = none ↔ ∀ x ∈ es, x.2.1 ≠ c
  | [] => by simp [lkp]
  | y :: l => by
    unfold lkp
    by_cases hc : y.2.1 = c
    · rw [if_pos hc]
      exact ⟨fun h => (nomatch h), fun h => absurd hc (h y List.mem_cons_self)⟩
    · rw [if_neg hc, lkp_none (es := l)]
      exact ⟨fun h x hx => by rcases List.mem_cons.mp hx with e | e; rw [e]; exact hc; exact h x e, fun h x hx => h x (List.mem_cons_of_mem _ hx)⟩
theorem lkp_of {es : List Ent} (hn : (cods es).Nodup) {x : Ent} (hx : x ∈ es) : lkp es x.2.1 = some x := by
  induction es with
  | nil => cases hx
  | cons y l ih =>
    unfold cods at hn
    rw [List.map_cons, List.nodup_cons] at hn
    unfold lkp
    rcases List.mem_cons.mp hx with e | e
    · rw [e, if_pos rfl]
    · rw [if_neg (fun q => hn.1 (List.mem_map.mpr ⟨x, e, q.symm⟩))]
      exact ih hn.2 e
