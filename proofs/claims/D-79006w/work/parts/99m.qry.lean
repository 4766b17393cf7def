/-! THE TWO SIDES JOINED: what a query answers -/
set_option maxRecDepth 100000
theorem qry_r {F : zTF} {G : zTG} {s : zS} (h60 : s.length ≤ 60) : (alR s 61 0 []).2 = (qrR F G s).1 25 ∧ (∀ cl, (alR s 61 0 []).1 = some cl → qrOk F G s = true ∧ (qrR F G s).1 23 = cl.length ∧ ∀ i c, cl[i]? = some c → rqL s ((qrR F G s).2 14) i c) ∧ ((alR s 61 0 []).1 = none → qrOk F G s = false) := by
  have e25 : qr0 F 25 = 0 := by unfold qr0; rw [upF_ne _ _ (by decide), upF_same]
  have e23 : qr0 F 23 = 0 := by unfold qr0; rw [upF_same]
  obtain ⟨n, hn⟩ : ∃ n : Nat, n = 61 := ⟨_, rfl⟩
  have h := alR_qrn s n (qr0 F) G [] (by rw [e25]; exact Int.le_refl 0) (by rw [e25]; omega) (by rw [e25]; omega) (by rw [e23]; rfl) (fun i c hi => by cases hi)
  rw [e25, hn] at h
  obtain ⟨h1, h2, h3⟩ := h
  have hq : qrR F G s = qrn s 61 (qr0 F) G := rfl
  rw [← hq] at h1 h2 h3
  refine ⟨h1, fun cl e => ?_, fun e => ?_⟩
  · obtain ⟨a, b, c, d⟩ := h2 cl e
    exact ⟨by unfold qrOk; rw [decide_eq_true a, decide_eq_true b]; rfl, c, d⟩
  · have h := h3 e
    unfold qrOk
    by_cases a : (qrR F G s).1 26 = 0
    · rw [decide_eq_true a, decide_eq_false (fun b => h ⟨a, b⟩)]; rfl
    · rw [decide_eq_false a]; rfl
theorem qry_cs {F : zTF} {G : zTG} {s : zS} {cl : List zCn} (hb : zBuf F G s) (h : (alR s 61 0 []).1 = some cl) : csG (qrF F G s) (qrG F G s) (some cl) := by
  obtain ⟨-, h2, -⟩ := qry_r (F := F) (G := G) (s := s) (by have := hb.2.1; omega)
  obtain ⟨a, b, c⟩ := h2 cl h
  refine ⟨?_, ?_, fun i c9 hi M l => ?_⟩
  · unfold qrF
    rw [if_pos a, upF_ne _ _ (by decide), upF_same]
  · unfold qrF
    rw [if_pos a, upF_same, b]
  · obtain ⟨p, p0, p1, p2⟩ := (c i c9 hi).cg (C2 := qrG F G s 12) (fun k k0 k1 => by
      have hlt := (List.getElem?_eq_some_iff.mp hi).1
      unfold qrG cpyG
      rw [if_pos a, if_neg (by omega), if_pos ⟨rfl, by omega, by rw [b]; omega⟩])
    refine cnB_fu p0 p1 p2 (fun j j0 j1 => ?_) M l
    unfold qrG cpyG
    rw [if_pos a, if_pos ⟨rfl, by omega, by omega⟩]
    exact (hb.2.2 j j0 j1).1

