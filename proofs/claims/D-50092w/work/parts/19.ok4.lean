set_option maxRecDepth 100000
section
variable {l : Launch}
theorem bo0 : BOK PP ynT ybT yrT yhT l 0 (PPtab.getD 0 []) := ⟨mo0, ⟨mo1, ⟨mo2, ⟨mo3, ⟨mo4, ⟨mo5, ⟨mo6, ⟨mo7, ⟨mo8, ⟨mo9, ⟨mo10, ⟨mo11, ⟨mo12, ⟨mo13, ⟨mo14, ⟨mo15, ⟨mo16, ⟨mo17, ⟨mo18, ⟨mo19, ⟨mo20, ⟨mo21, ⟨mo22, ⟨mo23, ⟨mo24, ⟨mo25, ⟨mo26, ⟨mo27, ⟨mo28, ⟨mo29, ⟨mo30, ⟨mo31, trivial⟩⟩⟩⟩⟩⟩⟩⟩⟩⟩⟩⟩⟩⟩⟩⟩⟩⟩⟩⟩⟩⟩⟩⟩⟩⟩⟩⟩⟩⟩⟩⟩
theorem bo1 : BOK PP ynT ybT yrT yhT l 32 (PPtab.getD 1 []) := ⟨mo32, ⟨mo33, ⟨mo34, ⟨mo35, ⟨mo36, ⟨mo37, ⟨mo38, ⟨mo39, ⟨mo40, ⟨mo41, ⟨mo42, ⟨mo43, ⟨mo44, ⟨mo45, ⟨mo46, ⟨mo47, ⟨mo48, ⟨mo49, ⟨mo50, ⟨mo51, ⟨mo52, ⟨mo53, ⟨mo54, ⟨mo55, ⟨mo56, ⟨mo57, ⟨mo58, ⟨mo59, ⟨mo60, ⟨mo61, ⟨mo62, ⟨mo63, trivial⟩⟩⟩⟩⟩⟩⟩⟩⟩⟩⟩⟩⟩⟩⟩⟩⟩⟩⟩⟩⟩⟩⟩⟩⟩⟩⟩⟩⟩⟩⟩⟩
theorem bo2 : BOK PP ynT ybT yrT yhT l 64 (PPtab.getD 2 []) := ⟨mo64, ⟨mo65, ⟨mo66, ⟨mo67, ⟨mo68, ⟨mo69, ⟨mo70, ⟨mo71, ⟨mo72, ⟨mo73, ⟨mo74, ⟨mo75, ⟨mo76, ⟨mo77, ⟨mo78, ⟨mo79, ⟨mo80, ⟨mo81, ⟨mo82, ⟨mo83, ⟨mo84, ⟨mo85, ⟨mo86, ⟨mo87, ⟨mo88, ⟨mo89, ⟨mo90, ⟨mo91, ⟨mo92, ⟨mo93, ⟨mo94, ⟨mo95, trivial⟩⟩⟩⟩⟩⟩⟩⟩⟩⟩⟩⟩⟩⟩⟩⟩⟩⟩⟩⟩⟩⟩⟩⟩⟩⟩⟩⟩⟩⟩⟩⟩
theorem bo3 : BOK PP ynT ybT yrT yhT l 96 (PPtab.getD 3 []) := ⟨mo96, ⟨mo97, ⟨mo98, ⟨mo99, ⟨mo100, ⟨mo101, ⟨mo102, ⟨mo103, ⟨mo104, ⟨mo105, ⟨mo106, ⟨mo107, ⟨mo108, ⟨mo109, ⟨mo110, ⟨mo111, ⟨mo112, ⟨mo113, ⟨mo114, ⟨mo115, ⟨mo116, ⟨mo117, ⟨mo118, ⟨mo119, ⟨mo120, ⟨mo121, ⟨mo122, ⟨mo123, ⟨mo124, ⟨mo125, ⟨mo126, ⟨mo127, trivial⟩⟩⟩⟩⟩⟩⟩⟩⟩⟩⟩⟩⟩⟩⟩⟩⟩⟩⟩⟩⟩⟩⟩⟩⟩⟩⟩⟩⟩⟩⟩⟩
theorem bo4 : BOK PP ynT ybT yrT yhT l 128 (PPtab.getD 4 []) := ⟨mo128, ⟨mo129, ⟨mo130, ⟨mo131, ⟨mo132, ⟨mo133, ⟨mo134, ⟨mo135, ⟨mo136, ⟨mo137, ⟨mo138, ⟨mo139, ⟨mo140, ⟨mo141, ⟨mo142, ⟨mo143, ⟨mo144, ⟨mo145, ⟨mo146, ⟨mo147, ⟨mo148, ⟨mo149, ⟨mo150, ⟨mo151, ⟨mo152, ⟨mo153, ⟨mo154, ⟨mo155, ⟨mo156, ⟨mo157, ⟨mo158, ⟨mo159, trivial⟩⟩⟩⟩⟩⟩⟩⟩⟩⟩⟩⟩⟩⟩⟩⟩⟩⟩⟩⟩⟩⟩⟩⟩⟩⟩⟩⟩⟩⟩⟩⟩
theorem bo5 : BOK PP ynT ybT yrT yhT l 160 (PPtab.getD 5 []) := ⟨mo160, ⟨mo161, ⟨mo162, ⟨mo163, ⟨mo164, ⟨mo165, ⟨mo166, ⟨mo167, ⟨mo168, ⟨mo169, ⟨mo170, ⟨mo171, ⟨mo172, ⟨mo173, ⟨mo174, ⟨mo175, ⟨mo176, ⟨mo177, ⟨mo178, ⟨mo179, ⟨mo180, ⟨mo181, ⟨mo182, ⟨mo183, ⟨mo184, ⟨mo185, ⟨mo186, ⟨mo187, ⟨mo188, ⟨mo189, ⟨mo190, ⟨mo191, trivial⟩⟩⟩⟩⟩⟩⟩⟩⟩⟩⟩⟩⟩⟩⟩⟩⟩⟩⟩⟩⟩⟩⟩⟩⟩⟩⟩⟩⟩⟩⟩⟩
theorem bo6 : BOK PP ynT ybT yrT yhT l 192 (PPtab.getD 6 []) := ⟨mo192, ⟨mo193, ⟨mo194, ⟨mo195, ⟨mo196, ⟨mo197, ⟨mo198, ⟨mo199, ⟨mo200, ⟨mo201, ⟨mo202, ⟨mo203, ⟨mo204, ⟨mo205, ⟨mo206, ⟨mo207, ⟨mo208, ⟨mo209, ⟨mo210, ⟨mo211, ⟨mo212, ⟨mo213, ⟨mo214, ⟨mo215, ⟨mo216, ⟨mo217, ⟨mo218, ⟨mo219, ⟨mo220, ⟨mo221, ⟨mo222, ⟨mo223, trivial⟩⟩⟩⟩⟩⟩⟩⟩⟩⟩⟩⟩⟩⟩⟩⟩⟩⟩⟩⟩⟩⟩⟩⟩⟩⟩⟩⟩⟩⟩⟩⟩
theorem bo7 : BOK PP ynT ybT yrT yhT l 224 (PPtab.getD 7 []) := ⟨mo224, ⟨mo225, ⟨mo226, ⟨mo227, ⟨mo228, ⟨mo229, ⟨mo230, ⟨mo231, ⟨mo232, ⟨mo233, ⟨mo234, ⟨mo235, ⟨mo236, ⟨mo237, ⟨mo238, ⟨mo239, ⟨mo240, ⟨mo241, ⟨mo242, ⟨mo243, ⟨mo244, ⟨mo245, ⟨mo246, ⟨mo247, ⟨mo248, ⟨mo249, ⟨mo250, ⟨mo251, ⟨mo252, ⟨mo253, ⟨mo254, ⟨mo255, trivial⟩⟩⟩⟩⟩⟩⟩⟩⟩⟩⟩⟩⟩⟩⟩⟩⟩⟩⟩⟩⟩⟩⟩⟩⟩⟩⟩⟩⟩⟩⟩⟩
theorem bo8 : BOK PP ynT ybT yrT yhT l 256 (PPtab.getD 8 []) := ⟨mo256, ⟨mo257, ⟨mo258, ⟨mo259, ⟨mo260, ⟨mo261, ⟨mo262, ⟨mo263, ⟨mo264, ⟨mo265, ⟨mo266, ⟨mo267, ⟨mo268, ⟨mo269, ⟨mo270, ⟨mo271, ⟨mo272, ⟨mo273, ⟨mo274, ⟨mo275, ⟨mo276, ⟨mo277, ⟨mo278, ⟨mo279, ⟨mo280, ⟨mo281, ⟨mo282, ⟨mo283, ⟨mo284, ⟨mo285, ⟨mo286, ⟨mo287, trivial⟩⟩⟩⟩⟩⟩⟩⟩⟩⟩⟩⟩⟩⟩⟩⟩⟩⟩⟩⟩⟩⟩⟩⟩⟩⟩⟩⟩⟩⟩⟩⟩
theorem bo9 : BOK PP ynT ybT yrT yhT l 288 (PPtab.getD 9 []) := ⟨mo288, ⟨mo289, ⟨mo290, ⟨mo291, ⟨mo292, ⟨mo293, ⟨mo294, ⟨mo295, ⟨mo296, ⟨mo297, ⟨mo298, ⟨mo299, ⟨mo300, ⟨mo301, ⟨mo302, ⟨mo303, ⟨mo304, ⟨mo305, ⟨mo306, ⟨mo307, ⟨mo308, ⟨mo309, ⟨mo310, ⟨mo311, ⟨mo312, ⟨mo313, ⟨mo314, ⟨mo315, ⟨mo316, ⟨mo317, ⟨mo318, ⟨mo319, trivial⟩⟩⟩⟩⟩⟩⟩⟩⟩⟩⟩⟩⟩⟩⟩⟩⟩⟩⟩⟩⟩⟩⟩⟩⟩⟩⟩⟩⟩⟩⟩⟩
theorem bo10 : BOK PP ynT ybT yrT yhT l 320 (PPtab.getD 10 []) := ⟨mo320, ⟨mo321, ⟨mo322, ⟨mo323, ⟨mo324, ⟨mo325, ⟨mo326, ⟨mo327, ⟨mo328, ⟨mo329, ⟨mo330, ⟨mo331, ⟨mo332, ⟨mo333, ⟨mo334, ⟨mo335, ⟨mo336, ⟨mo337, ⟨mo338, ⟨mo339, ⟨mo340, ⟨mo341, ⟨mo342, ⟨mo343, ⟨mo344, ⟨mo345, ⟨mo346, ⟨mo347, ⟨mo348, ⟨mo349, ⟨mo350, ⟨mo351, trivial⟩⟩⟩⟩⟩⟩⟩⟩⟩⟩⟩⟩⟩⟩⟩⟩⟩⟩⟩⟩⟩⟩⟩⟩⟩⟩⟩⟩⟩⟩⟩⟩
theorem bo11 : BOK PP ynT ybT yrT yhT l 352 (PPtab.getD 11 []) := ⟨mo352, ⟨mo353, ⟨mo354, ⟨mo355, ⟨mo356, ⟨mo357, ⟨mo358, ⟨mo359, ⟨mo360, ⟨trivial, ⟨mo362, ⟨mo363, ⟨mo364, ⟨trivial, ⟨mo366, ⟨mo367, ⟨mo368, ⟨mo369, ⟨mo370, ⟨mo371, ⟨trivial, ⟨trivial, ⟨trivial, ⟨trivial, ⟨trivial, ⟨trivial, ⟨trivial, ⟨trivial, ⟨trivial, ⟨trivial, ⟨trivial, ⟨trivial, trivial⟩⟩⟩⟩⟩⟩⟩⟩⟩⟩⟩⟩⟩⟩⟩⟩⟩⟩⟩⟩⟩⟩⟩⟩⟩⟩⟩⟩⟩⟩⟩⟩
theorem bo12 : BOK PP ynT ybT yrT yhT l 384 (PPtab.getD 12 []) := ⟨trivial, ⟨trivial, ⟨trivial, ⟨trivial, ⟨trivial, ⟨trivial, ⟨trivial, ⟨trivial, ⟨trivial, ⟨trivial, ⟨trivial, ⟨trivial, ⟨trivial, ⟨mo397, ⟨mo398, ⟨mo399, ⟨mo400, ⟨mo401, ⟨mo402, ⟨mo403, ⟨mo404, ⟨mo405, ⟨mo406, ⟨mo407, ⟨mo408, ⟨mo409, ⟨mo410, ⟨mo411, ⟨mo412, ⟨mo413, ⟨mo414, ⟨mo415, trivial⟩⟩⟩⟩⟩⟩⟩⟩⟩⟩⟩⟩⟩⟩⟩⟩⟩⟩⟩⟩⟩⟩⟩⟩⟩⟩⟩⟩⟩⟩⟩⟩
theorem bo13 : BOK PP ynT ybT yrT yhT l 416 (PPtab.getD 13 []) := ⟨mo416, ⟨mo417, ⟨trivial, ⟨mo419, ⟨trivial, ⟨mo421, ⟨trivial, ⟨trivial, ⟨trivial, ⟨trivial, ⟨trivial, ⟨trivial, ⟨trivial, ⟨trivial, ⟨mo430, ⟨mo431, ⟨mo432, ⟨mo433, ⟨mo434, ⟨mo435, ⟨mo436, ⟨mo437, ⟨mo438, ⟨mo439, ⟨mo440, ⟨mo441, ⟨mo442, ⟨mo443, ⟨mo444, ⟨trivial, ⟨trivial, ⟨mo447, trivial⟩⟩⟩⟩⟩⟩⟩⟩⟩⟩⟩⟩⟩⟩⟩⟩⟩⟩⟩⟩⟩⟩⟩⟩⟩⟩⟩⟩⟩⟩⟩⟩
theorem bo14 : BOK PP ynT ybT yrT yhT l 448 (PPtab.getD 14 []) := ⟨mo448, ⟨mo449, ⟨mo450, ⟨mo451, ⟨mo452, ⟨mo453, ⟨mo454, ⟨mo455, ⟨mo456, ⟨mo457, ⟨mo458, ⟨mo459, ⟨mo460, ⟨mo461, ⟨mo462, ⟨mo463, ⟨trivial, ⟨trivial, ⟨trivial, ⟨trivial, ⟨trivial, ⟨trivial, ⟨trivial, ⟨trivial, ⟨trivial, ⟨trivial, ⟨trivial, ⟨trivial, ⟨trivial, ⟨trivial, ⟨trivial, ⟨mo479, trivial⟩⟩⟩⟩⟩⟩⟩⟩⟩⟩⟩⟩⟩⟩⟩⟩⟩⟩⟩⟩⟩⟩⟩⟩⟩⟩⟩⟩⟩⟩⟩⟩
theorem bo15 : BOK PP ynT ybT yrT yhT l 480 (PPtab.getD 15 []) := ⟨trivial, ⟨mo481, ⟨mo482, ⟨mo483, ⟨mo484, ⟨mo485, ⟨mo486, ⟨mo487, ⟨mo488, ⟨mo489, ⟨mo490, ⟨mo491, ⟨mo492, ⟨mo493, ⟨trivial, ⟨mo495, ⟨mo496, ⟨trivial, ⟨trivial, ⟨mo499, ⟨mo500, ⟨trivial, ⟨trivial, ⟨trivial, ⟨mo504, ⟨mo505, ⟨mo506, ⟨mo507, ⟨mo508, ⟨mo509, ⟨mo510, ⟨mo511, trivial⟩⟩⟩⟩⟩⟩⟩⟩⟩⟩⟩⟩⟩⟩⟩⟩⟩⟩⟩⟩⟩⟩⟩⟩⟩⟩⟩⟩⟩⟩⟩⟩
theorem bo16 : BOK PP ynT ybT yrT yhT l 512 (PPtab.getD 16 []) := ⟨mo512, ⟨mo513, ⟨mo514, ⟨mo515, ⟨mo516, ⟨mo517, ⟨trivial, ⟨trivial, ⟨mo520, ⟨trivial, ⟨mo522, ⟨trivial, ⟨trivial, ⟨trivial, ⟨trivial, ⟨trivial, ⟨trivial, ⟨trivial, ⟨trivial, ⟨trivial, ⟨mo532, ⟨mo533, ⟨mo534, ⟨mo535, ⟨trivial, ⟨trivial, ⟨trivial, ⟨trivial, ⟨mo540, ⟨mo541, ⟨mo542, ⟨mo543, trivial⟩⟩⟩⟩⟩⟩⟩⟩⟩⟩⟩⟩⟩⟩⟩⟩⟩⟩⟩⟩⟩⟩⟩⟩⟩⟩⟩⟩⟩⟩⟩⟩
theorem bo17 : BOK PP ynT ybT yrT yhT l 544 (PPtab.getD 17 []) := ⟨mo544, ⟨mo545, ⟨mo546, ⟨mo547, ⟨mo548, ⟨mo549, ⟨mo550, ⟨mo551, ⟨mo552, ⟨mo553, ⟨mo554, ⟨trivial, ⟨trivial, ⟨trivial, ⟨trivial, ⟨trivial, trivial⟩⟩⟩⟩⟩⟩⟩⟩⟩⟩⟩⟩⟩⟩⟩⟩
theorem bo_all : ∀ j, BOK PP ynT ybT yrT yhT l (32 * j) (PPtab.getD j [])
  | 0 => bo0
  | 1 => bo1
  | 2 => bo2
  | 3 => bo3
  | 4 => bo4
  | 5 => bo5
  | 6 => bo6
  | 7 => bo7
  | 8 => bo8
  | 9 => bo9
  | 10 => bo10
  | 11 => bo11
  | 12 => bo12
  | 13 => bo13
  | 14 => bo14
  | 15 => bo15
  | 16 => bo16
  | 17 => bo17
  | n + 18 => trivial
theorem aok_plk {y pc : Nat} : ∀ {t : List (Nat × PI)}, AOK PP ynT ybT yrT yhT l y t → IOK PP ynT ybT yrT yhT l y pc (plk t pc)
  | [], _ => i_no
  | (k, q) :: r, h => by
    rw [plk]
    cases hb : Nat.beq pc k with
    | true =>
      have e : pc = k := Nat.eq_of_beq_eq_true hb
      rw [e]
      exact h.1
    | false => exact aok_plk h.2
theorem maok_at {y : Nat} : ∀ {t : List (List (Nat × PI))} (i : Nat), MAOK PP ynT ybT yrT yhT l y t → AOK PP ynT ybT yrT yhT l y (t.getD i [])
  | [], i, _ => by rw [List.getD_eq_getElem?_getD]; exact trivial
  | a :: r, 0, h => h.1
  | a :: r, i + 1, h => by
    have := maok_at i h.2
    rw [List.getD_eq_getElem?_getD] at this ⊢
    exact this
theorem bok_at : ∀ {t : List (List (List (Nat × PI)))} (b i : Nat), BOK PP ynT ybT yrT yhT l b t → MAOK PP ynT ybT yrT yhT l (b + i) (t.getD i [])
  | [], b, i, _ => by rw [List.getD_eq_getElem?_getD]; exact trivial
  | a :: r, b, 0, h => h.1
  | a :: r, b, i + 1, h => by
    have := bok_at (b + 1) i h.2
    rw [List.getD_eq_getElem?_getD] at this ⊢
    rw [show b + (i + 1) = b + 1 + i by omega]
    exact this
/-- every instruction of the program keeps its promise -/
theorem PP_ok : ∀ y pc, IOK PP ynT ybT yrT yhT l y pc (PP.2.1 y pc) := by
  intro y pc
  show IOK PP ynT ybT yrT yhT l y pc (plook ((PPtab.getD (y / 32) []).getD (y % 32) []) pc)
  have h := bok_at (32 * (y / 32)) (y % 32) (bo_all (l := l) (y / 32))
  rw [Nat.div_add_mod] at h
  exact aok_plk (maok_at (pc / 32) h)
/-- SOUND: the pure machine's runs of the program are the machine's -/
theorem PP_sound (hl : l.stackTraces = false) {d y pc : Nat} {ls st : List Value} {G : Hp} {o : Out} {G' : Hp} (h : XP PP d y pc ls st G = some (o, G')) (p : Program) (e : Env) (R : Room) (s : State) (m : MethodId) (args : Array Value) (below : List Frame) (meth : Method) (c : Code) (Q : State → Prop) (x0 s0 : Nat)
    (hcx : CX PP ynT ybT yrT yhT p l e R s m args meth c y d) (hf : FinK R s args below Q x0 s0 o G') : WW p l e R s m args below meth c Q x0 s0 G pc ls st := by
  obtain ⟨k, hk⟩ := XP_some.mp h
  exact snd_run hl PP_ok k d y pc ls st G o G' hk p e R s m args below meth c Q x0 s0 hcx hf

end
