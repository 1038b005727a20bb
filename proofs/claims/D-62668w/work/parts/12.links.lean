/-! THE SMALL MACHINE, 10: the links of the constant pools that the code uses, each a word of the tables (rows of claim/names) -/
set_option maxRecDepth 100000
def am_on (o : Nat) : String := match o with
  | 0 => "FunDeskLaw"
  | 40 => "java/lang/Record"
  | 41 => "java/lang/Math"
  | 42 => "java/lang/Enum"
  | o => am_cn o
def am_y (m : Nat) : MethodName := match m with
  | 0 => ⟨"FunDeskLaw", "load", "(LFunDesk;[J)I"⟩
  | 1 => ⟨"FunDeskLaw", "value", "(LFunDesk;I[J)I"⟩
  | 2 => ⟨"FunDeskLaw", "real", "(LFunDesk;[D)I"⟩
  | 3 => ⟨"FunDeskLaw", "item", "(LFunDesk;I)I"⟩
  | 4 => ⟨"FunDeskLaw", "top", "(LFunDesk;)I"⟩
  | 5 => ⟨"FunDesk", "<init>", "()V"⟩
  | 6 => ⟨"FunDesk", "type", "(C)Z"⟩
  | 7 => ⟨"FunDesk", "wipe", "()V"⟩
  | 8 => ⟨"FunDesk", "shown", "(I)I"⟩
  | 9 => ⟨"FunDesk", "run", "(I)I"⟩
  | 10 => ⟨"FunDesk", "counts", "(LFunDesk$Op;)Z"⟩
  | 11 => ⟨"FunDesk", "fail", "(I)V"⟩
  | 12 => ⟨"FunDesk", "execute", "()V"⟩
  | 13 => ⟨"FunDesk", "push", "(LFunDesk$Value;)V"⟩
  | 14 => ⟨"FunDesk", "pop", "()LFunDesk$Value;"⟩
  | 15 => ⟨"FunDesk", "call", "(LFunDesk$Value;LFunDesk$Value;)V"⟩
  | 16 => ⟨"FunDesk", "whole", "(LFunDesk$Value;)I"⟩
  | 17 => ⟨"FunDesk", "broken", "(LFunDesk$Value;)D"⟩
  | 18 => ⟨"FunDesk", "work", "(I)V"⟩
  | 19 => ⟨"FunDesk", "workReal", "(IDD)V"⟩
  | 20 => ⟨"FunDesk", "workWhole", "(III)V"⟩
  | 21 => ⟨"FunDesk", "tie", "(LFunDesk$Value;)V"⟩
  | 22 => ⟨"FunDesk", "test", "(I)V"⟩
  | 23 => ⟨"FunDesk", "state", "(I)I"⟩
  | 24 => ⟨"FunDesk", "load", "()I"⟩
  | 25 => ⟨"FunDesk", "attempt", "()I"⟩
  | 26 => ⟨"FunDesk", "expr", "()LFunDesk$Expr;"⟩
  | 27 => ⟨"FunDesk", "ill", "(Z)V"⟩
  | 28 => ⟨"FunDesk", "peek", "()C"⟩
  | 29 => ⟨"FunDesk", "here", "()C"⟩
  | 30 => ⟨"FunDesk", "inner", "(C)LFunDesk$Expr;"⟩
  | 31 => ⟨"FunDesk", "cons", "()LFunDesk$Expr;"⟩
  | 32 => ⟨"FunDesk", "compare", "()LFunDesk$Expr;"⟩
  | 33 => ⟨"FunDesk", "sum", "()LFunDesk$Expr;"⟩
  | 34 => ⟨"FunDesk", "product", "()LFunDesk$Expr;"⟩
  | 35 => ⟨"FunDesk", "apply", "()LFunDesk$Expr;"⟩
  | 36 => ⟨"FunDesk", "atom", "()LFunDesk$Expr;"⟩
  | 37 => ⟨"FunDesk", "begins", "(C)Z"⟩
  | 38 => ⟨"FunDesk", "digit", "(C)Z"⟩
  | 39 => ⟨"FunDesk", "letter", "(C)Z"⟩
  | 40 => ⟨"FunDesk", "figures", "()LFunDesk$Expr;"⟩
  | 41 => ⟨"FunDesk", "digits", "(I)I"⟩
  | 42 => ⟨"FunDesk", "operand", "()LFunDesk$Expr;"⟩
  | 43 => ⟨"FunDesk", "eat", "(C)Z"⟩
  | 44 => ⟨"FunDesk", "sign", "(I)I"⟩
  | 45 => ⟨"FunDesk", "tail", "()LFunDesk$Expr;"⟩
  | 46 => ⟨"FunDesk", "cases", "()LFunDesk$Expr;"⟩
  | 47 => ⟨"FunDesk", "pattern", "()LFunDesk$Pattern;"⟩
  | 48 => ⟨"FunDesk", "part", "()LFunDesk$Pattern;"⟩
  | 49 => ⟨"FunDesk", "more", "()LFunDesk$Pattern;"⟩
  | 50 => ⟨"FunDesk", "name", "()C"⟩
  | 51 => ⟨"FunDesk", "find", "(CLFunDesk$Scope;)LFunDesk$Scope;"⟩
  | 52 => ⟨"FunDesk", "exprType", "(LFunDesk$Expr;LFunDesk;LFunDesk$Scope;)LFunDesk$Type;"⟩
  | 53 => ⟨"FunDesk", "fresh", "()LFunDesk$Type;"⟩
  | 54 => ⟨"FunDesk", "unify", "(LFunDesk$Type;LFunDesk$Type;)V"⟩
  | 55 => ⟨"FunDesk", "fitting", "(LFunDesk$Type;)V"⟩
  | 56 => ⟨"FunDesk", "room", "(LFunDesk$Type;I)I"⟩
  | 57 => ⟨"FunDesk", "occurs", "(LFunDesk$Type;LFunDesk$Type;)Z"⟩
  | 58 => ⟨"FunDesk", "patternType", "(LFunDesk$Pattern;LFunDesk;)LFunDesk$Type;"⟩
  | 59 => ⟨"FunDesk", "keep", "(LFunDesk$Type;)LFunDesk$Type;"⟩
  | 60 => ⟨"FunDesk", "generalize", "(LFunDesk$Type;I)V"⟩
  | 61 => ⟨"FunDesk", "instance", "(LFunDesk;LFunDesk$Type;)LFunDesk$Type;"⟩
  | 62 => ⟨"FunDesk", "generic", "(LFunDesk$Type;)Z"⟩
  | 63 => ⟨"FunDesk", "emit", "(LFunDesk$Op;I)I"⟩
  | 64 => ⟨"FunDesk", "distance", "(CLFunDesk$Scope;)I"⟩
  | 65 => ⟨"FunDesk", "printType", "(LFunDesk;LFunDesk$Type;)V"⟩
  | 66 => ⟨"FunDesk", "print", "(C)V"⟩
  | 67 => ⟨"FunDesk", "printVariable", "(LFunDesk$Type;)V"⟩
  | 68 => ⟨"FunDesk", "value", "(I)I"⟩
  | 69 => ⟨"FunDesk", "known", "()V"⟩
  | 70 => ⟨"FunDesk", "items", "(LFunDesk$Value;)I"⟩
  | 71 => ⟨"FunDesk", "real", "()D"⟩
  | 72 => ⟨"FunDesk", "item", "(I)V"⟩
  | 73 => ⟨"FunDesk", "top", "()V"⟩
  | 74 => ⟨"FunDesk$Type", "<init>", "(LFunDesk$Sort;LFunDesk$Type;LFunDesk$Type;)V"⟩
  | 75 => ⟨"FunDesk$Type", "real", "()LFunDesk$Type;"⟩
  | 76 => ⟨"FunDesk$Nil", "<init>", "()V"⟩
  | 77 => ⟨"FunDeskModel", "<init>", "()V"⟩
  | 78 => ⟨"FunDeskModel", "thrown", "()I"⟩
  | 79 => ⟨"FunDeskModel", "type", "(C)Z"⟩
  | 80 => ⟨"FunDeskModel", "wipe", "()V"⟩
  | 81 => ⟨"FunDeskModel", "load", "()I"⟩
  | 82 => ⟨"FunDeskModel", "reads", "()Z"⟩
  | 83 => ⟨"FunDeskModel", "begin", "(I)V"⟩
  | 84 => ⟨"FunDeskModel", "exprBegins", "(I)V"⟩
  | 85 => ⟨"FunDeskModel", "deeper", "()V"⟩
  | 86 => ⟨"FunDeskModel", "peek", "()C"⟩
  | 87 => ⟨"FunDeskModel", "here", "()C"⟩
  | 88 => ⟨"FunDeskModel", "after", "(II)V"⟩
  | 89 => ⟨"FunDeskModel", "name", "()I"⟩
  | 90 => ⟨"FunDeskModel", "letter", "(C)Z"⟩
  | 91 => ⟨"FunDeskModel", "want", "(C)V"⟩
  | 92 => ⟨"FunDeskModel", "eat", "(C)Z"⟩
  | 93 => ⟨"FunDeskModel", "put", "(III)V"⟩
  | 94 => ⟨"FunDeskModel", "exprGoesOn", "(I)V"⟩
  | 95 => ⟨"FunDeskModel", "clauseEnds", "(I)V"⟩
  | 96 => ⟨"FunDeskModel", "clauseBegins", "(I)V"⟩
  | 97 => ⟨"FunDeskModel", "endsDeep", "()V"⟩
  | 98 => ⟨"FunDeskModel", "operands", "(I)V"⟩
  | 99 => ⟨"FunDeskModel", "atomBegins", "(C)Z"⟩
  | 100 => ⟨"FunDeskModel", "digit", "(C)Z"⟩
  | 101 => ⟨"FunDeskModel", "operator", "(I)I"⟩
  | 102 => ⟨"FunDeskModel", "atom", "(I)V"⟩
  | 103 => ⟨"FunDeskModel", "digits", "(I)I"⟩
  | 104 => ⟨"FunDeskModel", "pattern", "(I)V"⟩
  | 105 => ⟨"FunDeskModel", "insertSign", "(I)V"⟩
  | 106 => ⟨"FunDeskModel", "part", "(I)V"⟩
  | 107 => ⟨"FunDeskModel", "putSign", "(II)V"⟩
  | 108 => ⟨"FunDeskModel", "namesFound", "()Z"⟩
  | 109 => ⟨"FunDeskModel", "scope", "(I)V"⟩
  | 110 => ⟨"FunDeskModel", "bind", "(II)V"⟩
  | 111 => ⟨"FunDeskModel", "bindPattern", "(I)V"⟩
  | 112 => ⟨"FunDeskModel", "typesFound", "()Z"⟩
  | 113 => ⟨"FunDeskModel", "make", "(III)I"⟩
  | 114 => ⟨"FunDeskModel", "typeOf", "(I)V"⟩
  | 115 => ⟨"FunDeskModel", "push", "(I)V"⟩
  | 116 => ⟨"FunDeskModel", "fresh", "()I"⟩
  | 117 => ⟨"FunDeskModel", "instance", "(I)I"⟩
  | 118 => ⟨"FunDeskModel", "width", "(I)I"⟩
  | 119 => ⟨"FunDeskModel", "realType", "(I)I"⟩
  | 120 => ⟨"FunDeskModel", "copyOf", "(I)I"⟩
  | 121 => ⟨"FunDeskModel", "pop", "()I"⟩
  | 122 => ⟨"FunDeskModel", "applied", "()V"⟩
  | 123 => ⟨"FunDeskModel", "unify", "(II)V"⟩
  | 124 => ⟨"FunDeskModel", "standsIn", "(II)Z"⟩
  | 125 => ⟨"FunDeskModel", "operation", "(I)V"⟩
  | 126 => ⟨"FunDeskModel", "operand", "(I)I"⟩
  | 127 => ⟨"FunDeskModel", "bindingType", "(II)V"⟩
  | 128 => ⟨"FunDeskModel", "generalize", "(I)V"⟩
  | 129 => ⟨"FunDeskModel", "patternTypes", "(II)V"⟩
  | 130 => ⟨"FunDeskModel", "startProgram", "()V"⟩
  | 131 => ⟨"FunDeskModel", "show", "(I)V"⟩
  | 132 => ⟨"FunDeskModel", "shown", "(I)I"⟩
  | 133 => ⟨"FunDeskModel", "run", "(I)I"⟩
  | 134 => ⟨"FunDeskModel", "stepIsDue", "()Z"⟩
  | 135 => ⟨"FunDeskModel", "isStep", "(I)Z"⟩
  | 136 => ⟨"FunDeskModel", "execute", "()V"⟩
  | 137 => ⟨"FunDeskModel", "known", "(II)V"⟩
  | 138 => ⟨"FunDeskModel", "fail", "(I)V"⟩
  | 139 => ⟨"FunDeskModel", "further", "(I)I"⟩
  | 140 => ⟨"FunDeskModel", "knownValue", "(J)V"⟩
  | 141 => ⟨"FunDeskModel", "apply", "()V"⟩
  | 142 => ⟨"FunDeskModel", "kind", "(J)I"⟩
  | 143 => ⟨"FunDeskModel", "told", "(J)I"⟩
  | 144 => ⟨"FunDeskModel", "knownReal", "(D)V"⟩
  | 145 => ⟨"FunDeskModel", "realOf", "(J)D"⟩
  | 146 => ⟨"FunDeskModel", "worthIs", "(JI)V"⟩
  | 147 => ⟨"FunDeskModel", "work", "(I)V"⟩
  | 148 => ⟨"FunDeskModel", "workReals", "(IDD)V"⟩
  | 149 => ⟨"FunDeskModel", "workNumbers", "(III)V"⟩
  | 150 => ⟨"FunDeskModel", "bindTop", "(Z)V"⟩
  | 151 => ⟨"FunDeskModel", "flow", "(III)V"⟩
  | 152 => ⟨"FunDeskModel", "fits", "(II)Z"⟩
  | 153 => ⟨"FunDeskModel", "state", "(I)I"⟩
  | 154 => ⟨"FunDeskModel", "value", "(I)I"⟩
  | 155 => ⟨"FunDeskModel", "items", "(J)I"⟩
  | 156 => ⟨"FunDeskModel", "real", "()D"⟩
  | 157 => ⟨"FunDeskModel", "item", "(I)V"⟩
  | 158 => ⟨"FunDeskModel", "top", "()V"⟩
  | 159 => ⟨"FunDesk$Plain", "<init>", "(LFunDesk$Op;ILFunDesk$Sort;)V"⟩
  | 160 => ⟨"FunDesk$Plain", "look", "(LFunDesk$Scope;)V"⟩
  | 161 => ⟨"FunDesk$Plain", "infer", "(LFunDesk;LFunDesk$Scope;)LFunDesk$Type;"⟩
  | 162 => ⟨"FunDesk$Plain", "compile", "(LFunDesk;LFunDesk$Scope;)V"⟩
  | 163 => ⟨"FunDesk$Operation", "<init>", "(ILFunDesk$Expr;LFunDesk$Expr;)V"⟩
  | 164 => ⟨"FunDesk$Operation", "look", "(LFunDesk$Scope;)V"⟩
  | 165 => ⟨"FunDesk$Operation", "infer", "(LFunDesk;LFunDesk$Scope;)LFunDesk$Type;"⟩
  | 166 => ⟨"FunDesk$Operation", "compile", "(LFunDesk;LFunDesk$Scope;)V"⟩
  | 167 => ⟨"FunDesk$Name", "<init>", "(C)V"⟩
  | 168 => ⟨"FunDesk$Name", "look", "(LFunDesk$Scope;)V"⟩
  | 169 => ⟨"FunDesk$Name", "infer", "(LFunDesk;LFunDesk$Scope;)LFunDesk$Type;"⟩
  | 170 => ⟨"FunDesk$Name", "compile", "(LFunDesk;LFunDesk$Scope;)V"⟩
  | 171 => ⟨"FunDesk$Applied", "<init>", "(LFunDesk$Expr;LFunDesk$Expr;)V"⟩
  | 172 => ⟨"FunDesk$Applied", "look", "(LFunDesk$Scope;)V"⟩
  | 173 => ⟨"FunDesk$Applied", "infer", "(LFunDesk;LFunDesk$Scope;)LFunDesk$Type;"⟩
  | 174 => ⟨"FunDesk$Applied", "compile", "(LFunDesk;LFunDesk$Scope;)V"⟩
  | 175 => ⟨"FunDesk$If", "<init>", "(LFunDesk$Expr;LFunDesk$Expr;LFunDesk$Expr;)V"⟩
  | 176 => ⟨"FunDesk$If", "look", "(LFunDesk$Scope;)V"⟩
  | 177 => ⟨"FunDesk$If", "infer", "(LFunDesk;LFunDesk$Scope;)LFunDesk$Type;"⟩
  | 178 => ⟨"FunDesk$If", "compile", "(LFunDesk;LFunDesk$Scope;)V"⟩
  | 179 => ⟨"FunDesk$Case", "<init>", "(LFunDesk$Expr;)V"⟩
  | 180 => ⟨"FunDesk$Case", "look", "(LFunDesk$Scope;)V"⟩
  | 181 => ⟨"FunDesk$Case", "infer", "(LFunDesk;LFunDesk$Scope;)LFunDesk$Type;"⟩
  | 182 => ⟨"FunDesk$Case", "compile", "(LFunDesk;LFunDesk$Scope;)V"⟩
  | 183 => ⟨"FunDesk$Same", "fits", "(LFunDesk;LFunDesk$Value;)Z"⟩
  | 184 => ⟨"FunDesk$Same", "<init>", "(LFunDesk$Sort;I)V"⟩
  | 185 => ⟨"FunDesk$Same", "names", "(LFunDesk$Scope;)LFunDesk$Scope;"⟩
  | 186 => ⟨"FunDesk$Same", "infer", "(LFunDesk;)LFunDesk$Type;"⟩
  | 187 => ⟨"FunDesk$Any", "fits", "(LFunDesk;LFunDesk$Value;)Z"⟩
  | 188 => ⟨"FunDesk$Any", "<init>", "(C)V"⟩
  | 189 => ⟨"FunDesk$Any", "names", "(LFunDesk$Scope;)LFunDesk$Scope;"⟩
  | 190 => ⟨"FunDesk$Any", "infer", "(LFunDesk;)LFunDesk$Type;"⟩
  | 191 => ⟨"FunDesk$Both", "fits", "(LFunDesk;LFunDesk$Value;)Z"⟩
  | 192 => ⟨"FunDesk$Both", "<init>", "(LFunDesk$Pattern;LFunDesk$Pattern;)V"⟩
  | 193 => ⟨"FunDesk$Both", "names", "(LFunDesk$Scope;)LFunDesk$Scope;"⟩
  | 194 => ⟨"FunDesk$Both", "infer", "(LFunDesk;)LFunDesk$Type;"⟩
  | 195 => ⟨"FunDesk$Function", "<init>", "(CLFunDesk$Expr;)V"⟩
  | 196 => ⟨"FunDesk$Function", "look", "(LFunDesk$Scope;)V"⟩
  | 197 => ⟨"FunDesk$Function", "infer", "(LFunDesk;LFunDesk$Scope;)LFunDesk$Type;"⟩
  | 198 => ⟨"FunDesk$Function", "compile", "(LFunDesk;LFunDesk$Scope;)V"⟩
  | 199 => ⟨"FunDesk$Let", "<init>", "(CLFunDesk$Expr;LFunDesk$Expr;Z)V"⟩
  | 200 => ⟨"FunDesk$Let", "look", "(LFunDesk$Scope;)V"⟩
  | 201 => ⟨"FunDesk$Let", "infer", "(LFunDesk;LFunDesk$Scope;)LFunDesk$Type;"⟩
  | 202 => ⟨"FunDesk$Let", "compile", "(LFunDesk;LFunDesk$Scope;)V"⟩
  | 203 => ⟨"FunDesk$Scope", "<init>", "(CLFunDesk$Type;LFunDesk$Scope;)V"⟩
  | 204 => ⟨"FunDesk$Scope", "name", "()C"⟩
  | 205 => ⟨"FunDesk$Scope", "next", "()LFunDesk$Scope;"⟩
  | 206 => ⟨"FunDesk$Scope", "type", "()LFunDesk$Type;"⟩
  | 207 => ⟨"FunDesk$Whole", "<init>", "(I)V"⟩
  | 208 => ⟨"FunDesk$Whole", "number", "()I"⟩
  | 209 => ⟨"FunDesk$Broken", "<init>", "(D)V"⟩
  | 210 => ⟨"FunDesk$Broken", "number", "()D"⟩
  | 211 => ⟨"FunDesk$Built", "<init>", "(I)V"⟩
  | 212 => ⟨"FunDesk$Built", "name", "()I"⟩
  | 213 => ⟨"FunDesk$Closure", "<init>", "(ILFunDesk$Env;)V"⟩
  | 214 => ⟨"FunDesk$Closure", "env", "()LFunDesk$Env;"⟩
  | 215 => ⟨"FunDesk$Closure", "at", "()I"⟩
  | 216 => ⟨"FunDesk$Env", "<init>", "(LFunDesk$Value;LFunDesk$Env;)V"⟩
  | 217 => ⟨"FunDesk$Cons", "<init>", "(LFunDesk$Value;LFunDesk$Value;)V"⟩
  | 218 => ⟨"FunDesk$Cons", "first", "()LFunDesk$Value;"⟩
  | 219 => ⟨"FunDesk$Cons", "rest", "()LFunDesk$Value;"⟩
  | 220 => ⟨"java/lang/Record", "<init>", "()V"⟩
  | 221 => ⟨"FunDeskLaw", "law", "([I)Z"⟩
  | _ => ⟨"", "", ""⟩
def am_kv (k : Nat) : Value := match k with
  | 0 => .double 4652007308841189376
  | 1 => .double 4741671816366391296
  | 2 => .double 13965043853221167104
  | 3 => .int 65535
  | 4 => .long 8
  | 5 => .long 7
  | 6 => .long 6
  | _ => .null
def am_kn (c : Nat) : String := match c with
  | 105 => "FunDesk$Type"
  | 106 => "FunDesk$Op"
  | 107 => "FunDesk$Pattern"
  | 108 => "FunDesk$Value"
  | 109 => "FunDesk$Env"
  | 110 => "FunDesk$Expr"
  | c => am_cn c
theorem q205 : (Jvm.Cond.fieldLink "FunDesk" (18 : Nat) "FunDesk" "number" "LFunDesk$Type;") ∈ lw_all := lw_g (lw_at lw_m1 99 rfl) rfl
theorem q209 : (Jvm.Cond.fieldLink "FunDesk" (27 : Nat) "FunDesk" "truth" "LFunDesk$Type;") ∈ lw_all := lw_g (lw_at lw_m1 103 rfl) rfl
theorem q214 : (Jvm.Cond.fieldLink "FunDesk" (33 : Nat) "FunDesk" "real" "LFunDesk$Type;") ∈ lw_all := lw_g (lw_at lw_m1 108 rfl) rfl
theorem q221 : (Jvm.Cond.fieldLink "FunDesk" (36 : Nat) "FunDesk" "shown" "[C") ∈ lw_all := lw_g (lw_at lw_m1 115 rfl) rfl
theorem q222 : (Jvm.Cond.fieldLink "FunDesk" (40 : Nat) "FunDesk" "letters" "[LFunDesk$Type;") ∈ lw_all := lw_g (lw_at lw_m1 116 rfl) rfl
theorem q225 : (Jvm.Cond.fieldLink "FunDesk" (44 : Nat) "FunDesk" "types" "[LFunDesk$Type;") ∈ lw_all := lw_g (lw_at lw_m1 119 rfl) rfl
theorem q227 : (Jvm.Cond.fieldLink "FunDesk" (47 : Nat) "FunDesk" "text" "[C") ∈ lw_all := lw_g (lw_at lw_m1 121 rfl) rfl
theorem q232 : (Jvm.Cond.fieldLink "FunDesk" (52 : Nat) "FunDesk" "ops" "[LFunDesk$Op;") ∈ lw_all := lw_g (lw_at lw_m1 126 rfl) rfl
theorem q233 : (Jvm.Cond.fieldLink "FunDesk" (56 : Nat) "FunDesk" "args" "[I") ∈ lw_all := lw_g (lw_at lw_m1 127 rfl) rfl
theorem q237 : (Jvm.Cond.fieldLink "FunDesk" (62 : Nat) "FunDesk" "tests" "[LFunDesk$Pattern;") ∈ lw_all := lw_g (lw_at lw_m1 131 rfl) rfl
theorem q244 : (Jvm.Cond.fieldLink "FunDesk" (69 : Nat) "FunDesk" "nil" "LFunDesk$Value;") ∈ lw_all := lw_g (lw_at lw_m1 138 rfl) rfl
theorem q245 : (Jvm.Cond.fieldLink "FunDesk" (75 : Nat) "FunDesk" "stack" "[LFunDesk$Value;") ∈ lw_all := lw_g (lw_at lw_m1 139 rfl) rfl
theorem q246 : (Jvm.Cond.fieldLink "FunDesk" (79 : Nat) "FunDesk" "dump" "[I") ∈ lw_all := lw_g (lw_at lw_m1 140 rfl) rfl
theorem q247 : (Jvm.Cond.fieldLink "FunDesk" (84 : Nat) "FunDesk" "dumped" "[LFunDesk$Env;") ∈ lw_all := lw_g (lw_at lw_m1 141 rfl) rfl
theorem q217 : (Jvm.Cond.fieldLink "FunDesk" (91 : Nat) "FunDesk" "level" "I") ∈ lw_all := lw_g (lw_at lw_m1 111 rfl) rfl
theorem q165 : (Jvm.Cond.fieldLink "FunDesk" (95 : Nat) "FunDesk$Type" "level" "I") ∈ lw_all := lw_g (lw_at lw_m1 59 rfl) rfl
theorem q159 : (Jvm.Cond.fieldLink "FunDesk" (99 : Nat) "FunDesk$Type" "sort" "LFunDesk$Sort;") ∈ lw_all := lw_g (lw_at lw_m1 53 rfl) rfl
theorem q161 : (Jvm.Cond.fieldLink "FunDesk" (108 : Nat) "FunDesk$Type" "one" "LFunDesk$Type;") ∈ lw_all := lw_g (lw_at lw_m1 55 rfl) rfl
theorem q163 : (Jvm.Cond.fieldLink "FunDesk" (115 : Nat) "FunDesk$Type" "two" "LFunDesk$Type;") ∈ lw_all := lw_g (lw_at lw_m1 57 rfl) rfl
theorem q166 : (Jvm.Cond.fieldLink "FunDesk" (147 : Nat) "FunDesk$Type" "stamp" "I") ∈ lw_all := lw_g (lw_at lw_m1 60 rfl) rfl
theorem q220 : (Jvm.Cond.fieldLink "FunDesk" (150 : Nat) "FunDesk" "stamp" "I") ∈ lw_all := lw_g (lw_at lw_m1 114 rfl) rfl
theorem q164 : (Jvm.Cond.fieldLink "FunDesk" (154 : Nat) "FunDesk$Type" "copy" "LFunDesk$Type;") ∈ lw_all := lw_g (lw_at lw_m1 58 rfl) rfl
theorem q223 : (Jvm.Cond.fieldLink "FunDesk" (161 : Nat) "FunDesk" "showing" "I") ∈ lw_all := lw_g (lw_at lw_m1 117 rfl) rfl
theorem q224 : (Jvm.Cond.fieldLink "FunDesk" (164 : Nat) "FunDesk" "named" "I") ∈ lw_all := lw_g (lw_at lw_m1 118 rfl) rfl
theorem q226 : (Jvm.Cond.fieldLink "FunDesk" (205 : Nat) "FunDesk" "kept" "I") ∈ lw_all := lw_g (lw_at lw_m1 120 rfl) rfl
theorem q229 : (Jvm.Cond.fieldLink "FunDesk" (214 : Nat) "FunDesk" "at" "I") ∈ lw_all := lw_g (lw_at lw_m1 123 rfl) rfl
theorem q228 : (Jvm.Cond.fieldLink "FunDesk" (217 : Nat) "FunDesk" "length" "I") ∈ lw_all := lw_g (lw_at lw_m1 122 rfl) rfl
theorem q230 : (Jvm.Cond.fieldLink "FunDesk" (234 : Nat) "FunDesk" "depth" "I") ∈ lw_all := lw_g (lw_at lw_m1 124 rfl) rfl
theorem q828 : (Jvm.Cond.fieldLink "FunDesk" (275 : Nat) "FunDesk$Case" "many" "I") ∈ lw_all := lw_g (lw_at lw_m4 2 rfl) rfl
theorem q231 : (Jvm.Cond.fieldLink "FunDesk" (278 : Nat) "FunDesk" "bound" "I") ∈ lw_all := lw_g (lw_at lw_m1 125 rfl) rfl
theorem q824 : (Jvm.Cond.fieldLink "FunDesk" (281 : Nat) "FunDesk$Case" "patterns" "[LFunDesk$Pattern;") ∈ lw_all := lw_g (lw_at lw_m3 238 rfl) rfl
theorem q826 : (Jvm.Cond.fieldLink "FunDesk" (288 : Nat) "FunDesk$Case" "exprs" "[LFunDesk$Expr;") ∈ lw_all := lw_g (lw_at lw_m4 0 rfl) rfl
theorem q241 : (Jvm.Cond.fieldLink "FunDesk" (382 : Nat) "FunDesk" "size" "I") ∈ lw_all := lw_g (lw_at lw_m1 135 rfl) rfl
theorem q250 : (Jvm.Cond.fieldLink "FunDesk" (385 : Nat) "FunDesk" "top" "I") ∈ lw_all := lw_g (lw_at lw_m1 144 rfl) rfl
theorem q253 : (Jvm.Cond.fieldLink "FunDesk" (401 : Nat) "FunDesk" "state" "I") ∈ lw_all := lw_g (lw_at lw_m1 147 rfl) rfl
theorem q254 : (Jvm.Cond.fieldLink "FunDesk" (404 : Nat) "FunDesk" "failure" "I") ∈ lw_all := lw_g (lw_at lw_m1 148 rfl) rfl
theorem q252 : (Jvm.Cond.fieldLink "FunDesk" (425 : Nat) "FunDesk" "pc" "I") ∈ lw_all := lw_g (lw_at lw_m1 146 rfl) rfl
theorem q249 : (Jvm.Cond.fieldLink "FunDesk" (443 : Nat) "FunDesk" "env" "LFunDesk$Env;") ∈ lw_all := lw_g (lw_at lw_m1 143 rfl) rfl
theorem q478 : (Jvm.Cond.fieldLink "FunDesk" (447 : Nat) "FunDesk$Env" "next" "LFunDesk$Env;") ∈ lw_all := lw_g (lw_at lw_m2 132 rfl) rfl
theorem q476 : (Jvm.Cond.fieldLink "FunDesk" (449 : Nat) "FunDesk$Env" "value" "LFunDesk$Value;") ∈ lw_all := lw_g (lw_at lw_m2 130 rfl) rfl
theorem q251 : (Jvm.Cond.fieldLink "FunDesk" (457 : Nat) "FunDesk" "dumps" "I") ∈ lw_all := lw_g (lw_at lw_m1 145 rfl) rfl
theorem q260 : (Jvm.Cond.fieldLink "FunDesk" (515 : Nat) "FunDesk" "tried" "Z") ∈ lw_all := lw_g (lw_at lw_m1 154 rfl) rfl
theorem q262 : (Jvm.Cond.fieldLink "FunDesk" (519 : Nat) "FunDesk" "found" "LFunDesk$Expr;") ∈ lw_all := lw_g (lw_at lw_m1 156 rfl) rfl
theorem q263 : (Jvm.Cond.fieldLink "FunDesk" (531 : Nat) "FunDesk" "foundType" "LFunDesk$Type;") ∈ lw_all := lw_g (lw_at lw_m1 157 rfl) rfl
theorem q261 : (Jvm.Cond.fieldLink "FunDesk" (537 : Nat) "FunDesk" "reason" "I") ∈ lw_all := lw_g (lw_at lw_m1 155 rfl) rfl
theorem q258 : (Jvm.Cond.fieldLink "FunDesk" (544 : Nat) "FunDesk" "whole" "LFunDesk$Type;") ∈ lw_all := lw_g (lw_at lw_m1 152 rfl) rfl
theorem q255 : (Jvm.Cond.fieldLink "FunDesk" (546 : Nat) "FunDesk" "steps" "I") ∈ lw_all := lw_g (lw_at lw_m1 149 rfl) rfl
theorem q257 : (Jvm.Cond.fieldLink "FunDesk" (549 : Nat) "FunDesk" "seen" "LFunDesk$Value;") ∈ lw_all := lw_g (lw_at lw_m1 151 rfl) rfl
theorem q259 : (Jvm.Cond.fieldLink "FunDesk" (556 : Nat) "FunDesk" "of" "LFunDesk$Type;") ∈ lw_all := lw_g (lw_at lw_m1 153 rfl) rfl
theorem q256 : (Jvm.Cond.fieldLink "FunDesk" (559 : Nat) "FunDesk" "all" "I") ∈ lw_all := lw_g (lw_at lw_m1 150 rfl) rfl
theorem q158 : (Jvm.Cond.fieldLink "FunDesk$Type" (7 : Nat) "FunDesk$Type" "sort" "LFunDesk$Sort;") ∈ lw_all := lw_g (lw_at lw_m1 52 rfl) rfl
theorem q160 : (Jvm.Cond.fieldLink "FunDesk$Type" (13 : Nat) "FunDesk$Type" "one" "LFunDesk$Type;") ∈ lw_all := lw_g (lw_at lw_m1 54 rfl) rfl
theorem q162 : (Jvm.Cond.fieldLink "FunDesk$Type" (17 : Nat) "FunDesk$Type" "two" "LFunDesk$Type;") ∈ lw_all := lw_g (lw_at lw_m1 56 rfl) rfl
theorem q1409 : (Jvm.Cond.fieldLink "FunDeskModel" (7 : Nat) "FunDeskModel" "text" "[C") ∈ lw_all := lw_g (lw_at lw_m6 103 rfl) rfl
theorem q1412 : (Jvm.Cond.fieldLink "FunDeskModel" (13 : Nat) "FunDeskModel" "draft" "[I") ∈ lw_all := lw_g (lw_at lw_m6 106 rfl) rfl
theorem q1413 : (Jvm.Cond.fieldLink "FunDeskModel" (17 : Nat) "FunDeskModel" "draftArg" "[I") ∈ lw_all := lw_g (lw_at lw_m6 107 rfl) rfl
theorem q1414 : (Jvm.Cond.fieldLink "FunDeskModel" (20 : Nat) "FunDeskModel" "draftName" "[I") ∈ lw_all := lw_g (lw_at lw_m6 108 rfl) rfl
theorem q1416 : (Jvm.Cond.fieldLink "FunDeskModel" (23 : Nat) "FunDeskModel" "code" "[I") ∈ lw_all := lw_g (lw_at lw_m6 110 rfl) rfl
theorem q1417 : (Jvm.Cond.fieldLink "FunDeskModel" (26 : Nat) "FunDeskModel" "arg" "[I") ∈ lw_all := lw_g (lw_at lw_m6 111 rfl) rfl
theorem q1418 : (Jvm.Cond.fieldLink "FunDeskModel" (29 : Nat) "FunDeskModel" "codeEnd" "[I") ∈ lw_all := lw_g (lw_at lw_m6 112 rfl) rfl
theorem q1420 : (Jvm.Cond.fieldLink "FunDeskModel" (32 : Nat) "FunDeskModel" "sign" "[I") ∈ lw_all := lw_g (lw_at lw_m6 114 rfl) rfl
theorem q1421 : (Jvm.Cond.fieldLink "FunDeskModel" (35 : Nat) "FunDeskModel" "signArg" "[I") ∈ lw_all := lw_g (lw_at lw_m6 115 rfl) rfl
theorem q1423 : (Jvm.Cond.fieldLink "FunDeskModel" (38 : Nat) "FunDeskModel" "keptSign" "[I") ∈ lw_all := lw_g (lw_at lw_m6 117 rfl) rfl
theorem q1424 : (Jvm.Cond.fieldLink "FunDeskModel" (41 : Nat) "FunDeskModel" "keptArg" "[I") ∈ lw_all := lw_g (lw_at lw_m6 118 rfl) rfl
theorem q1425 : (Jvm.Cond.fieldLink "FunDeskModel" (44 : Nat) "FunDeskModel" "goal" "[I") ∈ lw_all := lw_g (lw_at lw_m6 119 rfl) rfl
theorem q1426 : (Jvm.Cond.fieldLink "FunDeskModel" (47 : Nat) "FunDeskModel" "stage" "[I") ∈ lw_all := lw_g (lw_at lw_m6 120 rfl) rfl
theorem q1427 : (Jvm.Cond.fieldLink "FunDeskModel" (50 : Nat) "FunDeskModel" "x" "[I") ∈ lw_all := lw_g (lw_at lw_m6 121 rfl) rfl
theorem q1428 : (Jvm.Cond.fieldLink "FunDeskModel" (53 : Nat) "FunDeskModel" "y" "[I") ∈ lw_all := lw_g (lw_at lw_m6 122 rfl) rfl
theorem q1433 : (Jvm.Cond.fieldLink "FunDeskModel" (56 : Nat) "FunDeskModel" "otherwise" "[I") ∈ lw_all := lw_g (lw_at lw_m6 127 rfl) rfl
theorem q1434 : (Jvm.Cond.fieldLink "FunDeskModel" (59 : Nat) "FunDeskModel" "keptOtherwise" "[I") ∈ lw_all := lw_g (lw_at lw_m6 128 rfl) rfl
theorem q1435 : (Jvm.Cond.fieldLink "FunDeskModel" (62 : Nat) "FunDeskModel" "names" "[I") ∈ lw_all := lw_g (lw_at lw_m6 129 rfl) rfl
theorem q1436 : (Jvm.Cond.fieldLink "FunDeskModel" (65 : Nat) "FunDeskModel" "nameType" "[I") ∈ lw_all := lw_g (lw_at lw_m6 130 rfl) rfl
theorem q1437 : (Jvm.Cond.fieldLink "FunDeskModel" (68 : Nat) "FunDeskModel" "many" "[Z") ∈ lw_all := lw_g (lw_at lw_m6 131 rfl) rfl
theorem q1439 : (Jvm.Cond.fieldLink "FunDeskModel" (72 : Nat) "FunDeskModel" "sort" "[I") ∈ lw_all := lw_g (lw_at lw_m6 133 rfl) rfl
theorem q1440 : (Jvm.Cond.fieldLink "FunDeskModel" (75 : Nat) "FunDeskModel" "first" "[I") ∈ lw_all := lw_g (lw_at lw_m6 134 rfl) rfl
theorem q1441 : (Jvm.Cond.fieldLink "FunDeskModel" (78 : Nat) "FunDeskModel" "second" "[I") ∈ lw_all := lw_g (lw_at lw_m6 135 rfl) rfl
theorem q1442 : (Jvm.Cond.fieldLink "FunDeskModel" (81 : Nat) "FunDeskModel" "copied" "[I") ∈ lw_all := lw_g (lw_at lw_m6 136 rfl) rfl
theorem q1444 : (Jvm.Cond.fieldLink "FunDeskModel" (84 : Nat) "FunDeskModel" "row" "[I") ∈ lw_all := lw_g (lw_at lw_m6 138 rfl) rfl
theorem q1448 : (Jvm.Cond.fieldLink "FunDeskModel" (87 : Nat) "FunDeskModel" "looked" "[I") ∈ lw_all := lw_g (lw_at lw_m6 142 rfl) rfl
theorem q1450 : (Jvm.Cond.fieldLink "FunDeskModel" (90 : Nat) "FunDeskModel" "parts" "[I") ∈ lw_all := lw_g (lw_at lw_m6 144 rfl) rfl
theorem q1454 : (Jvm.Cond.fieldLink "FunDeskModel" (93 : Nat) "FunDeskModel" "pairs" "[I") ∈ lw_all := lw_g (lw_at lw_m6 148 rfl) rfl
theorem q1455 : (Jvm.Cond.fieldLink "FunDeskModel" (96 : Nat) "FunDeskModel" "same" "[I") ∈ lw_all := lw_g (lw_at lw_m6 149 rfl) rfl
theorem q1456 : (Jvm.Cond.fieldLink "FunDeskModel" (99 : Nat) "FunDeskModel" "shownText" "[C") ∈ lw_all := lw_g (lw_at lw_m6 150 rfl) rfl
theorem q1458 : (Jvm.Cond.fieldLink "FunDeskModel" (102 : Nat) "FunDeskModel" "value" "[J") ∈ lw_all := lw_g (lw_at lw_m6 152 rfl) rfl
theorem q1460 : (Jvm.Cond.fieldLink "FunDeskModel" (106 : Nat) "FunDeskModel" "back" "[I") ∈ lw_all := lw_g (lw_at lw_m6 154 rfl) rfl
theorem q1461 : (Jvm.Cond.fieldLink "FunDeskModel" (109 : Nat) "FunDeskModel" "backNames" "[I") ∈ lw_all := lw_g (lw_at lw_m6 155 rfl) rfl
theorem q1463 : (Jvm.Cond.fieldLink "FunDeskModel" (112 : Nat) "FunDeskModel" "worth" "[J") ∈ lw_all := lw_g (lw_at lw_m6 157 rfl) rfl
theorem q1464 : (Jvm.Cond.fieldLink "FunDeskModel" (115 : Nat) "FunDeskModel" "outer" "[I") ∈ lw_all := lw_g (lw_at lw_m6 158 rfl) rfl
theorem q1467 : (Jvm.Cond.fieldLink "FunDeskModel" (118 : Nat) "FunDeskModel" "item" "[J") ∈ lw_all := lw_g (lw_at lw_m6 161 rfl) rfl
theorem q1468 : (Jvm.Cond.fieldLink "FunDeskModel" (121 : Nat) "FunDeskModel" "others" "[J") ∈ lw_all := lw_g (lw_at lw_m6 162 rfl) rfl
theorem q1470 : (Jvm.Cond.fieldLink "FunDeskModel" (124 : Nat) "FunDeskModel" "reals" "[D") ∈ lw_all := lw_g (lw_at lw_m6 164 rfl) rfl
theorem q1479 : (Jvm.Cond.fieldLink "FunDeskModel" (128 : Nat) "FunDeskModel" "fitted" "[J") ∈ lw_all := lw_g (lw_at lw_m6 173 rfl) rfl
theorem q1408 : (Jvm.Cond.fieldLink "FunDeskModel" (131 : Nat) "FunDeskModel" "thrown" "I") ∈ lw_all := lw_g (lw_at lw_m6 102 rfl) rfl
theorem q1410 : (Jvm.Cond.fieldLink "FunDeskModel" (135 : Nat) "FunDeskModel" "length" "I") ∈ lw_all := lw_g (lw_at lw_m6 104 rfl) rfl
theorem q1411 : (Jvm.Cond.fieldLink "FunDeskModel" (138 : Nat) "FunDeskModel" "at" "I") ∈ lw_all := lw_g (lw_at lw_m6 105 rfl) rfl
theorem q1432 : (Jvm.Cond.fieldLink "FunDeskModel" (152 : Nat) "FunDeskModel" "bad" "Z") ∈ lw_all := lw_g (lw_at lw_m6 126 rfl) rfl
theorem q1415 : (Jvm.Cond.fieldLink "FunDeskModel" (162 : Nat) "FunDeskModel" "drafts" "I") ∈ lw_all := lw_g (lw_at lw_m6 109 rfl) rfl
theorem q1422 : (Jvm.Cond.fieldLink "FunDeskModel" (165 : Nat) "FunDeskModel" "signs" "I") ∈ lw_all := lw_g (lw_at lw_m6 116 rfl) rfl
theorem q1429 : (Jvm.Cond.fieldLink "FunDeskModel" (168 : Nat) "FunDeskModel" "open" "I") ∈ lw_all := lw_g (lw_at lw_m6 123 rfl) rfl
theorem q1430 : (Jvm.Cond.fieldLink "FunDeskModel" (175 : Nat) "FunDeskModel" "depth" "I") ∈ lw_all := lw_g (lw_at lw_m6 124 rfl) rfl
theorem q1431 : (Jvm.Cond.fieldLink "FunDeskModel" (197 : Nat) "FunDeskModel" "bound" "I") ∈ lw_all := lw_g (lw_at lw_m6 125 rfl) rfl
theorem q1438 : (Jvm.Cond.fieldLink "FunDeskModel" (244 : Nat) "FunDeskModel" "around" "I") ∈ lw_all := lw_g (lw_at lw_m6 132 rfl) rfl
theorem q1443 : (Jvm.Cond.fieldLink "FunDeskModel" (256 : Nat) "FunDeskModel" "types" "I") ∈ lw_all := lw_g (lw_at lw_m6 137 rfl) rfl
theorem q1453 : (Jvm.Cond.fieldLink "FunDeskModel" (263 : Nat) "FunDeskModel" "met" "Z") ∈ lw_all := lw_g (lw_at lw_m6 147 rfl) rfl
theorem q1446 : (Jvm.Cond.fieldLink "FunDeskModel" (269 : Nat) "FunDeskModel" "wanted" "I") ∈ lw_all := lw_g (lw_at lw_m6 140 rfl) rfl
theorem q1452 : (Jvm.Cond.fieldLink "FunDeskModel" (275 : Nat) "FunDeskModel" "ill" "Z") ∈ lw_all := lw_g (lw_at lw_m6 146 rfl) rfl
theorem q1445 : (Jvm.Cond.fieldLink "FunDeskModel" (282 : Nat) "FunDeskModel" "typed" "I") ∈ lw_all := lw_g (lw_at lw_m6 139 rfl) rfl
theorem q1451 : (Jvm.Cond.fieldLink "FunDeskModel" (285 : Nat) "FunDeskModel" "kept" "I") ∈ lw_all := lw_g (lw_at lw_m6 145 rfl) rfl
theorem q1447 : (Jvm.Cond.fieldLink "FunDeskModel" (291 : Nat) "FunDeskModel" "touched" "I") ∈ lw_all := lw_g (lw_at lw_m6 141 rfl) rfl
theorem q1449 : (Jvm.Cond.fieldLink "FunDeskModel" (324 : Nat) "FunDeskModel" "looks" "I") ∈ lw_all := lw_g (lw_at lw_m6 143 rfl) rfl
theorem q1457 : (Jvm.Cond.fieldLink "FunDeskModel" (333 : Nat) "FunDeskModel" "showing" "I") ∈ lw_all := lw_g (lw_at lw_m6 151 rfl) rfl
theorem q1473 : (Jvm.Cond.fieldLink "FunDeskModel" (336 : Nat) "FunDeskModel" "state" "I") ∈ lw_all := lw_g (lw_at lw_m6 167 rfl) rfl
theorem q1474 : (Jvm.Cond.fieldLink "FunDeskModel" (339 : Nat) "FunDeskModel" "failure" "I") ∈ lw_all := lw_g (lw_at lw_m6 168 rfl) rfl
theorem q1459 : (Jvm.Cond.fieldLink "FunDeskModel" (342 : Nat) "FunDeskModel" "top" "I") ∈ lw_all := lw_g (lw_at lw_m6 153 rfl) rfl
theorem q1471 : (Jvm.Cond.fieldLink "FunDeskModel" (364 : Nat) "FunDeskModel" "realsMade" "I") ∈ lw_all := lw_g (lw_at lw_m6 165 rfl) rfl
theorem q1465 : (Jvm.Cond.fieldLink "FunDeskModel" (367 : Nat) "FunDeskModel" "bindings" "I") ∈ lw_all := lw_g (lw_at lw_m6 159 rfl) rfl
theorem q1466 : (Jvm.Cond.fieldLink "FunDeskModel" (370 : Nat) "FunDeskModel" "inner" "I") ∈ lw_all := lw_g (lw_at lw_m6 160 rfl) rfl
theorem q1462 : (Jvm.Cond.fieldLink "FunDeskModel" (381 : Nat) "FunDeskModel" "backs" "I") ∈ lw_all := lw_g (lw_at lw_m6 156 rfl) rfl
theorem q1472 : (Jvm.Cond.fieldLink "FunDeskModel" (384 : Nat) "FunDeskModel" "pc" "I") ∈ lw_all := lw_g (lw_at lw_m6 166 rfl) rfl
theorem q1469 : (Jvm.Cond.fieldLink "FunDeskModel" (391 : Nat) "FunDeskModel" "lists" "I") ∈ lw_all := lw_g (lw_at lw_m6 163 rfl) rfl
theorem q1419 : (Jvm.Cond.fieldLink "FunDeskModel" (430 : Nat) "FunDeskModel" "size" "I") ∈ lw_all := lw_g (lw_at lw_m6 113 rfl) rfl
theorem q1475 : (Jvm.Cond.fieldLink "FunDeskModel" (436 : Nat) "FunDeskModel" "steps" "I") ∈ lw_all := lw_g (lw_at lw_m6 169 rfl) rfl
theorem q1477 : (Jvm.Cond.fieldLink "FunDeskModel" (459 : Nat) "FunDeskModel" "seen" "J") ∈ lw_all := lw_g (lw_at lw_m6 171 rfl) rfl
theorem q1478 : (Jvm.Cond.fieldLink "FunDeskModel" (463 : Nat) "FunDeskModel" "seenType" "I") ∈ lw_all := lw_g (lw_at lw_m6 172 rfl) rfl
theorem q1476 : (Jvm.Cond.fieldLink "FunDeskModel" (469 : Nat) "FunDeskModel" "all" "I") ∈ lw_all := lw_g (lw_at lw_m6 170 rfl) rfl
theorem q717 : (Jvm.Cond.fieldLink "FunDesk$Plain" (7 : Nat) "FunDesk$Plain" "op" "LFunDesk$Op;") ∈ lw_all := lw_g (lw_at lw_m3 131 rfl) rfl
theorem q718 : (Jvm.Cond.fieldLink "FunDesk$Plain" (13 : Nat) "FunDesk$Plain" "arg" "I") ∈ lw_all := lw_g (lw_at lw_m3 132 rfl) rfl
theorem q719 : (Jvm.Cond.fieldLink "FunDesk$Plain" (17 : Nat) "FunDesk$Plain" "sort" "LFunDesk$Sort;") ∈ lw_all := lw_g (lw_at lw_m3 133 rfl) rfl
theorem q745 : (Jvm.Cond.fieldLink "FunDesk$Operation" (9 : Nat) "FunDesk$Operation" "sign" "I") ∈ lw_all := lw_g (lw_at lw_m3 159 rfl) rfl
theorem q746 : (Jvm.Cond.fieldLink "FunDesk$Operation" (15 : Nat) "FunDesk$Operation" "left" "LFunDesk$Expr;") ∈ lw_all := lw_g (lw_at lw_m3 160 rfl) rfl
theorem q747 : (Jvm.Cond.fieldLink "FunDesk$Operation" (19 : Nat) "FunDesk$Operation" "right" "LFunDesk$Expr;") ∈ lw_all := lw_g (lw_at lw_m3 161 rfl) rfl
theorem q768 : (Jvm.Cond.fieldLink "FunDesk$Name" (7 : Nat) "FunDesk$Name" "name" "C") ∈ lw_all := lw_g (lw_at lw_m3 182 rfl) rfl
theorem q778 : (Jvm.Cond.fieldLink "FunDesk$Applied" (7 : Nat) "FunDesk$Applied" "function" "LFunDesk$Expr;") ∈ lw_all := lw_g (lw_at lw_m3 192 rfl) rfl
theorem q779 : (Jvm.Cond.fieldLink "FunDesk$Applied" (13 : Nat) "FunDesk$Applied" "argument" "LFunDesk$Expr;") ∈ lw_all := lw_g (lw_at lw_m3 193 rfl) rfl
theorem q799 : (Jvm.Cond.fieldLink "FunDesk$If" (7 : Nat) "FunDesk$If" "test" "LFunDesk$Expr;") ∈ lw_all := lw_g (lw_at lw_m3 213 rfl) rfl
theorem q800 : (Jvm.Cond.fieldLink "FunDesk$If" (13 : Nat) "FunDesk$If" "yes" "LFunDesk$Expr;") ∈ lw_all := lw_g (lw_at lw_m3 214 rfl) rfl
theorem q801 : (Jvm.Cond.fieldLink "FunDesk$If" (16 : Nat) "FunDesk$If" "no" "LFunDesk$Expr;") ∈ lw_all := lw_g (lw_at lw_m3 215 rfl) rfl
theorem q823 : (Jvm.Cond.fieldLink "FunDesk$Case" (11 : Nat) "FunDesk$Case" "patterns" "[LFunDesk$Pattern;") ∈ lw_all := lw_g (lw_at lw_m3 237 rfl) rfl
theorem q825 : (Jvm.Cond.fieldLink "FunDesk$Case" (19 : Nat) "FunDesk$Case" "exprs" "[LFunDesk$Expr;") ∈ lw_all := lw_g (lw_at lw_m3 239 rfl) rfl
theorem q822 : (Jvm.Cond.fieldLink "FunDesk$Case" (23 : Nat) "FunDesk$Case" "what" "LFunDesk$Expr;") ∈ lw_all := lw_g (lw_at lw_m3 236 rfl) rfl
theorem q827 : (Jvm.Cond.fieldLink "FunDesk$Case" (31 : Nat) "FunDesk$Case" "many" "I") ∈ lw_all := lw_g (lw_at lw_m4 1 rfl) rfl
theorem q852 : (Jvm.Cond.fieldLink "FunDesk$Same" (7 : Nat) "FunDesk$Same" "sort" "LFunDesk$Sort;") ∈ lw_all := lw_g (lw_at lw_m4 26 rfl) rfl
theorem q853 : (Jvm.Cond.fieldLink "FunDesk$Same" (13 : Nat) "FunDesk$Same" "number" "I") ∈ lw_all := lw_g (lw_at lw_m4 27 rfl) rfl
theorem q865 : (Jvm.Cond.fieldLink "FunDesk$Any" (7 : Nat) "FunDesk$Any" "name" "C") ∈ lw_all := lw_g (lw_at lw_m4 39 rfl) rfl
theorem q879 : (Jvm.Cond.fieldLink "FunDesk$Both" (7 : Nat) "FunDesk$Both" "first" "LFunDesk$Pattern;") ∈ lw_all := lw_g (lw_at lw_m4 53 rfl) rfl
theorem q880 : (Jvm.Cond.fieldLink "FunDesk$Both" (13 : Nat) "FunDesk$Both" "rest" "LFunDesk$Pattern;") ∈ lw_all := lw_g (lw_at lw_m4 54 rfl) rfl
theorem q896 : (Jvm.Cond.fieldLink "FunDesk$Function" (7 : Nat) "FunDesk$Function" "name" "C") ∈ lw_all := lw_g (lw_at lw_m4 70 rfl) rfl
theorem q897 : (Jvm.Cond.fieldLink "FunDesk$Function" (13 : Nat) "FunDesk$Function" "body" "LFunDesk$Expr;") ∈ lw_all := lw_g (lw_at lw_m4 71 rfl) rfl
theorem q909 : (Jvm.Cond.fieldLink "FunDesk$Let" (7 : Nat) "FunDesk$Let" "name" "C") ∈ lw_all := lw_g (lw_at lw_m4 83 rfl) rfl
theorem q910 : (Jvm.Cond.fieldLink "FunDesk$Let" (13 : Nat) "FunDesk$Let" "what" "LFunDesk$Expr;") ∈ lw_all := lw_g (lw_at lw_m4 84 rfl) rfl
theorem q911 : (Jvm.Cond.fieldLink "FunDesk$Let" (17 : Nat) "FunDesk$Let" "in" "LFunDesk$Expr;") ∈ lw_all := lw_g (lw_at lw_m4 85 rfl) rfl
theorem q912 : (Jvm.Cond.fieldLink "FunDesk$Let" (20 : Nat) "FunDesk$Let" "again" "Z") ∈ lw_all := lw_g (lw_at lw_m4 86 rfl) rfl
theorem q954 : (Jvm.Cond.fieldLink "FunDesk$Scope" (7 : Nat) "FunDesk$Scope" "name" "C") ∈ lw_all := lw_g (lw_at lw_m4 128 rfl) rfl
theorem q955 : (Jvm.Cond.fieldLink "FunDesk$Scope" (13 : Nat) "FunDesk$Scope" "type" "LFunDesk$Type;") ∈ lw_all := lw_g (lw_at lw_m4 129 rfl) rfl
theorem q956 : (Jvm.Cond.fieldLink "FunDesk$Scope" (17 : Nat) "FunDesk$Scope" "next" "LFunDesk$Scope;") ∈ lw_all := lw_g (lw_at lw_m4 130 rfl) rfl
theorem q396 : (Jvm.Cond.fieldLink "FunDesk$Whole" (7 : Nat) "FunDesk$Whole" "number" "I") ∈ lw_all := lw_g (lw_at lw_m2 50 rfl) rfl
theorem q411 : (Jvm.Cond.fieldLink "FunDesk$Broken" (7 : Nat) "FunDesk$Broken" "number" "D") ∈ lw_all := lw_g (lw_at lw_m2 65 rfl) rfl
theorem q421 : (Jvm.Cond.fieldLink "FunDesk$Built" (7 : Nat) "FunDesk$Built" "name" "I") ∈ lw_all := lw_g (lw_at lw_m2 75 rfl) rfl
theorem q431 : (Jvm.Cond.fieldLink "FunDesk$Closure" (7 : Nat) "FunDesk$Closure" "at" "I") ∈ lw_all := lw_g (lw_at lw_m2 85 rfl) rfl
theorem q432 : (Jvm.Cond.fieldLink "FunDesk$Closure" (13 : Nat) "FunDesk$Closure" "env" "LFunDesk$Env;") ∈ lw_all := lw_g (lw_at lw_m2 86 rfl) rfl
theorem q475 : (Jvm.Cond.fieldLink "FunDesk$Env" (7 : Nat) "FunDesk$Env" "value" "LFunDesk$Value;") ∈ lw_all := lw_g (lw_at lw_m2 129 rfl) rfl
theorem q477 : (Jvm.Cond.fieldLink "FunDesk$Env" (13 : Nat) "FunDesk$Env" "next" "LFunDesk$Env;") ∈ lw_all := lw_g (lw_at lw_m2 131 rfl) rfl
theorem q498 : (Jvm.Cond.fieldLink "FunDesk$Cons" (7 : Nat) "FunDesk$Cons" "first" "LFunDesk$Value;") ∈ lw_all := lw_g (lw_at lw_m2 152 rfl) rfl
theorem q499 : (Jvm.Cond.fieldLink "FunDesk$Cons" (13 : Nat) "FunDesk$Cons" "rest" "LFunDesk$Value;") ∈ lw_all := lw_g (lw_at lw_m2 153 rfl) rfl
def am_fl_0 : List (Nat × Nat × Nat) := [(1, 18, 128), (1, 27, 129), (1, 33, 130), (1, 36, 133), (1, 40, 134), (1, 44, 137), (1, 47, 139), (1, 52, 144), (1, 56, 145), (1, 62, 146), (1, 69, 149), (1, 75, 150), (1, 79, 151), (1, 84, 152), (1, 91, 131), (1, 95, 260), (1, 99, 256), (1, 108, 257), (1, 115, 258), (1, 147, 261), (1, 150, 132), (1, 154, 259), (1, 161, 135), (1, 164, 136), (1, 205, 138)]
theorem am_fl_ok0 : ∀ x ∈ am_fl_0, Cond.fieldLink (am_on x.1) x.2.1 (am_fld x.2.2).1 (am_fld x.2.2).2.1 (am_fld x.2.2).2.2.1 ∈ lw_all := List.forall_mem_cons.mpr ⟨q205, List.forall_mem_cons.mpr ⟨q209, List.forall_mem_cons.mpr ⟨q214, List.forall_mem_cons.mpr ⟨q221, List.forall_mem_cons.mpr ⟨q222, List.forall_mem_cons.mpr ⟨q225, List.forall_mem_cons.mpr ⟨q227, List.forall_mem_cons.mpr ⟨q232, List.forall_mem_cons.mpr ⟨q233, List.forall_mem_cons.mpr ⟨q237, List.forall_mem_cons.mpr ⟨q244, List.forall_mem_cons.mpr ⟨q245, List.forall_mem_cons.mpr ⟨q246, List.forall_mem_cons.mpr ⟨q247, List.forall_mem_cons.mpr ⟨q217, List.forall_mem_cons.mpr ⟨q165, List.forall_mem_cons.mpr ⟨q159, List.forall_mem_cons.mpr ⟨q161, List.forall_mem_cons.mpr ⟨q163, List.forall_mem_cons.mpr ⟨q166, List.forall_mem_cons.mpr ⟨q220, List.forall_mem_cons.mpr ⟨q164, List.forall_mem_cons.mpr ⟨q223, List.forall_mem_cons.mpr ⟨q224, List.forall_mem_cons.mpr ⟨q226, List.forall_mem_nil _⟩⟩⟩⟩⟩⟩⟩⟩⟩⟩⟩⟩⟩⟩⟩⟩⟩⟩⟩⟩⟩⟩⟩⟩⟩
def am_fl_1 : List (Nat × Nat × Nat) := [(1, 214, 141), (1, 217, 140), (1, 234, 142), (1, 275, 1283), (1, 278, 143), (1, 281, 1281), (1, 288, 1282), (1, 382, 147), (1, 385, 154), (1, 401, 157), (1, 404, 158), (1, 425, 156), (1, 443, 153), (1, 447, 2689), (1, 449, 2688), (1, 457, 155), (1, 515, 164), (1, 519, 166), (1, 531, 167), (1, 537, 165), (1, 544, 162), (1, 546, 159), (1, 549, 161), (1, 556, 163), (1, 559, 160)]
theorem am_fl_ok1 : ∀ x ∈ am_fl_1, Cond.fieldLink (am_on x.1) x.2.1 (am_fld x.2.2).1 (am_fld x.2.2).2.1 (am_fld x.2.2).2.2.1 ∈ lw_all := List.forall_mem_cons.mpr ⟨q229, List.forall_mem_cons.mpr ⟨q228, List.forall_mem_cons.mpr ⟨q230, List.forall_mem_cons.mpr ⟨q828, List.forall_mem_cons.mpr ⟨q231, List.forall_mem_cons.mpr ⟨q824, List.forall_mem_cons.mpr ⟨q826, List.forall_mem_cons.mpr ⟨q241, List.forall_mem_cons.mpr ⟨q250, List.forall_mem_cons.mpr ⟨q253, List.forall_mem_cons.mpr ⟨q254, List.forall_mem_cons.mpr ⟨q252, List.forall_mem_cons.mpr ⟨q249, List.forall_mem_cons.mpr ⟨q478, List.forall_mem_cons.mpr ⟨q476, List.forall_mem_cons.mpr ⟨q251, List.forall_mem_cons.mpr ⟨q260, List.forall_mem_cons.mpr ⟨q262, List.forall_mem_cons.mpr ⟨q263, List.forall_mem_cons.mpr ⟨q261, List.forall_mem_cons.mpr ⟨q258, List.forall_mem_cons.mpr ⟨q255, List.forall_mem_cons.mpr ⟨q257, List.forall_mem_cons.mpr ⟨q259, List.forall_mem_cons.mpr ⟨q256, List.forall_mem_nil _⟩⟩⟩⟩⟩⟩⟩⟩⟩⟩⟩⟩⟩⟩⟩⟩⟩⟩⟩⟩⟩⟩⟩⟩⟩
def am_fl_2 : List (Nat × Nat × Nat) := [(2, 7, 256), (2, 13, 257), (2, 17, 258), (4, 7, 513), (4, 13, 516), (4, 17, 517), (4, 20, 518), (4, 23, 520), (4, 26, 521), (4, 29, 522), (4, 32, 524), (4, 35, 525), (4, 38, 527), (4, 41, 528), (4, 44, 529), (4, 47, 530), (4, 50, 531), (4, 53, 532), (4, 56, 537), (4, 59, 538), (4, 62, 539), (4, 65, 540), (4, 68, 541), (4, 72, 543), (4, 75, 544)]
theorem am_fl_ok2 : ∀ x ∈ am_fl_2, Cond.fieldLink (am_on x.1) x.2.1 (am_fld x.2.2).1 (am_fld x.2.2).2.1 (am_fld x.2.2).2.2.1 ∈ lw_all := List.forall_mem_cons.mpr ⟨q158, List.forall_mem_cons.mpr ⟨q160, List.forall_mem_cons.mpr ⟨q162, List.forall_mem_cons.mpr ⟨q1409, List.forall_mem_cons.mpr ⟨q1412, List.forall_mem_cons.mpr ⟨q1413, List.forall_mem_cons.mpr ⟨q1414, List.forall_mem_cons.mpr ⟨q1416, List.forall_mem_cons.mpr ⟨q1417, List.forall_mem_cons.mpr ⟨q1418, List.forall_mem_cons.mpr ⟨q1420, List.forall_mem_cons.mpr ⟨q1421, List.forall_mem_cons.mpr ⟨q1423, List.forall_mem_cons.mpr ⟨q1424, List.forall_mem_cons.mpr ⟨q1425, List.forall_mem_cons.mpr ⟨q1426, List.forall_mem_cons.mpr ⟨q1427, List.forall_mem_cons.mpr ⟨q1428, List.forall_mem_cons.mpr ⟨q1433, List.forall_mem_cons.mpr ⟨q1434, List.forall_mem_cons.mpr ⟨q1435, List.forall_mem_cons.mpr ⟨q1436, List.forall_mem_cons.mpr ⟨q1437, List.forall_mem_cons.mpr ⟨q1439, List.forall_mem_cons.mpr ⟨q1440, List.forall_mem_nil _⟩⟩⟩⟩⟩⟩⟩⟩⟩⟩⟩⟩⟩⟩⟩⟩⟩⟩⟩⟩⟩⟩⟩⟩⟩
def am_fl_3 : List (Nat × Nat × Nat) := [(4, 78, 545), (4, 81, 546), (4, 84, 548), (4, 87, 552), (4, 90, 554), (4, 93, 558), (4, 96, 559), (4, 99, 560), (4, 102, 562), (4, 106, 564), (4, 109, 565), (4, 112, 567), (4, 115, 568), (4, 118, 571), (4, 121, 572), (4, 124, 574), (4, 128, 583), (4, 131, 512), (4, 135, 514), (4, 138, 515), (4, 152, 536), (4, 162, 519), (4, 165, 526), (4, 168, 533), (4, 175, 534)]
theorem am_fl_ok3 : ∀ x ∈ am_fl_3, Cond.fieldLink (am_on x.1) x.2.1 (am_fld x.2.2).1 (am_fld x.2.2).2.1 (am_fld x.2.2).2.2.1 ∈ lw_all := List.forall_mem_cons.mpr ⟨q1441, List.forall_mem_cons.mpr ⟨q1442, List.forall_mem_cons.mpr ⟨q1444, List.forall_mem_cons.mpr ⟨q1448, List.forall_mem_cons.mpr ⟨q1450, List.forall_mem_cons.mpr ⟨q1454, List.forall_mem_cons.mpr ⟨q1455, List.forall_mem_cons.mpr ⟨q1456, List.forall_mem_cons.mpr ⟨q1458, List.forall_mem_cons.mpr ⟨q1460, List.forall_mem_cons.mpr ⟨q1461, List.forall_mem_cons.mpr ⟨q1463, List.forall_mem_cons.mpr ⟨q1464, List.forall_mem_cons.mpr ⟨q1467, List.forall_mem_cons.mpr ⟨q1468, List.forall_mem_cons.mpr ⟨q1470, List.forall_mem_cons.mpr ⟨q1479, List.forall_mem_cons.mpr ⟨q1408, List.forall_mem_cons.mpr ⟨q1410, List.forall_mem_cons.mpr ⟨q1411, List.forall_mem_cons.mpr ⟨q1432, List.forall_mem_cons.mpr ⟨q1415, List.forall_mem_cons.mpr ⟨q1422, List.forall_mem_cons.mpr ⟨q1429, List.forall_mem_cons.mpr ⟨q1430, List.forall_mem_nil _⟩⟩⟩⟩⟩⟩⟩⟩⟩⟩⟩⟩⟩⟩⟩⟩⟩⟩⟩⟩⟩⟩⟩⟩⟩
def am_fl_4 : List (Nat × Nat × Nat) := [(4, 197, 535), (4, 244, 542), (4, 256, 547), (4, 263, 557), (4, 269, 550), (4, 275, 556), (4, 282, 549), (4, 285, 555), (4, 291, 551), (4, 324, 553), (4, 333, 561), (4, 336, 577), (4, 339, 578), (4, 342, 563), (4, 364, 575), (4, 367, 569), (4, 370, 570), (4, 381, 566), (4, 384, 576), (4, 391, 573), (4, 430, 523), (4, 436, 579), (4, 459, 581), (4, 463, 582), (4, 469, 580)]
theorem am_fl_ok4 : ∀ x ∈ am_fl_4, Cond.fieldLink (am_on x.1) x.2.1 (am_fld x.2.2).1 (am_fld x.2.2).2.1 (am_fld x.2.2).2.2.1 ∈ lw_all := List.forall_mem_cons.mpr ⟨q1431, List.forall_mem_cons.mpr ⟨q1438, List.forall_mem_cons.mpr ⟨q1443, List.forall_mem_cons.mpr ⟨q1453, List.forall_mem_cons.mpr ⟨q1446, List.forall_mem_cons.mpr ⟨q1452, List.forall_mem_cons.mpr ⟨q1445, List.forall_mem_cons.mpr ⟨q1451, List.forall_mem_cons.mpr ⟨q1447, List.forall_mem_cons.mpr ⟨q1449, List.forall_mem_cons.mpr ⟨q1457, List.forall_mem_cons.mpr ⟨q1473, List.forall_mem_cons.mpr ⟨q1474, List.forall_mem_cons.mpr ⟨q1459, List.forall_mem_cons.mpr ⟨q1471, List.forall_mem_cons.mpr ⟨q1465, List.forall_mem_cons.mpr ⟨q1466, List.forall_mem_cons.mpr ⟨q1462, List.forall_mem_cons.mpr ⟨q1472, List.forall_mem_cons.mpr ⟨q1469, List.forall_mem_cons.mpr ⟨q1419, List.forall_mem_cons.mpr ⟨q1475, List.forall_mem_cons.mpr ⟨q1477, List.forall_mem_cons.mpr ⟨q1478, List.forall_mem_cons.mpr ⟨q1476, List.forall_mem_nil _⟩⟩⟩⟩⟩⟩⟩⟩⟩⟩⟩⟩⟩⟩⟩⟩⟩⟩⟩⟩⟩⟩⟩⟩⟩
def am_fl_5 : List (Nat × Nat × Nat) := [(5, 7, 640), (5, 13, 641), (5, 17, 642), (6, 9, 768), (6, 15, 769), (6, 19, 770), (7, 7, 896), (8, 7, 1024), (8, 13, 1025), (9, 7, 1152), (9, 13, 1153), (9, 16, 1154), (10, 11, 1281), (10, 19, 1282), (10, 23, 1280), (10, 31, 1283), (11, 7, 1408), (11, 13, 1409), (12, 7, 1536), (13, 7, 1664), (13, 13, 1665), (14, 7, 1792), (14, 13, 1793), (15, 7, 1920), (15, 13, 1921)]
theorem am_fl_ok5 : ∀ x ∈ am_fl_5, Cond.fieldLink (am_on x.1) x.2.1 (am_fld x.2.2).1 (am_fld x.2.2).2.1 (am_fld x.2.2).2.2.1 ∈ lw_all := List.forall_mem_cons.mpr ⟨q717, List.forall_mem_cons.mpr ⟨q718, List.forall_mem_cons.mpr ⟨q719, List.forall_mem_cons.mpr ⟨q745, List.forall_mem_cons.mpr ⟨q746, List.forall_mem_cons.mpr ⟨q747, List.forall_mem_cons.mpr ⟨q768, List.forall_mem_cons.mpr ⟨q778, List.forall_mem_cons.mpr ⟨q779, List.forall_mem_cons.mpr ⟨q799, List.forall_mem_cons.mpr ⟨q800, List.forall_mem_cons.mpr ⟨q801, List.forall_mem_cons.mpr ⟨q823, List.forall_mem_cons.mpr ⟨q825, List.forall_mem_cons.mpr ⟨q822, List.forall_mem_cons.mpr ⟨q827, List.forall_mem_cons.mpr ⟨q852, List.forall_mem_cons.mpr ⟨q853, List.forall_mem_cons.mpr ⟨q865, List.forall_mem_cons.mpr ⟨q879, List.forall_mem_cons.mpr ⟨q880, List.forall_mem_cons.mpr ⟨q896, List.forall_mem_cons.mpr ⟨q897, List.forall_mem_cons.mpr ⟨q909, List.forall_mem_cons.mpr ⟨q910, List.forall_mem_nil _⟩⟩⟩⟩⟩⟩⟩⟩⟩⟩⟩⟩⟩⟩⟩⟩⟩⟩⟩⟩⟩⟩⟩⟩⟩
def am_fl_6 : List (Nat × Nat × Nat) := [(15, 17, 1922), (15, 20, 1923), (16, 7, 2048), (16, 13, 2049), (16, 17, 2050), (17, 7, 2176), (18, 7, 2304), (19, 7, 2432), (20, 7, 2560), (20, 13, 2561), (21, 7, 2688), (21, 13, 2689), (22, 7, 2816), (22, 13, 2817)]
theorem am_fl_ok6 : ∀ x ∈ am_fl_6, Cond.fieldLink (am_on x.1) x.2.1 (am_fld x.2.2).1 (am_fld x.2.2).2.1 (am_fld x.2.2).2.2.1 ∈ lw_all := List.forall_mem_cons.mpr ⟨q911, List.forall_mem_cons.mpr ⟨q912, List.forall_mem_cons.mpr ⟨q954, List.forall_mem_cons.mpr ⟨q955, List.forall_mem_cons.mpr ⟨q956, List.forall_mem_cons.mpr ⟨q396, List.forall_mem_cons.mpr ⟨q411, List.forall_mem_cons.mpr ⟨q421, List.forall_mem_cons.mpr ⟨q431, List.forall_mem_cons.mpr ⟨q432, List.forall_mem_cons.mpr ⟨q475, List.forall_mem_cons.mpr ⟨q477, List.forall_mem_cons.mpr ⟨q498, List.forall_mem_cons.mpr ⟨q499, List.forall_mem_nil _⟩⟩⟩⟩⟩⟩⟩⟩⟩⟩⟩⟩⟩⟩
def am_fl : List (Nat × Nat × Nat) := am_fl_0 ++ am_fl_1 ++ am_fl_2 ++ am_fl_3 ++ am_fl_4 ++ am_fl_5 ++ am_fl_6
theorem am_fl_ok : ∀ x ∈ am_fl, Cond.fieldLink (am_on x.1) x.2.1 (am_fld x.2.2).1 (am_fld x.2.2).2.1 (am_fld x.2.2).2.2.1 ∈ lw_all := List.forall_mem_append.mpr ⟨List.forall_mem_append.mpr ⟨List.forall_mem_append.mpr ⟨List.forall_mem_append.mpr ⟨List.forall_mem_append.mpr ⟨List.forall_mem_append.mpr ⟨am_fl_ok0, am_fl_ok1⟩, am_fl_ok2⟩, am_fl_ok3⟩, am_fl_ok4⟩, am_fl_ok5⟩, am_fl_ok6⟩
theorem q207 : (Jvm.Cond.fieldLinkNest "FunDesk$Plain" (48 : Nat) "FunDesk" "number" "LFunDesk$Type;" "FunDesk") ∈ lw_tbl := lw_at lw_m1 101 rfl
theorem q215 : (Jvm.Cond.fieldLinkNest "FunDesk$Plain" (52 : Nat) "FunDesk" "real" "LFunDesk$Type;" "FunDesk") ∈ lw_tbl := lw_at lw_m1 109 rfl
theorem q212 : (Jvm.Cond.fieldLinkNest "FunDesk$Plain" (61 : Nat) "FunDesk" "truth" "LFunDesk$Type;" "FunDesk") ∈ lw_tbl := lw_at lw_m1 106 rfl
theorem q216 : (Jvm.Cond.fieldLinkNest "FunDesk$Operation" (47 : Nat) "FunDesk" "real" "LFunDesk$Type;" "FunDesk") ∈ lw_tbl := lw_at lw_m1 110 rfl
theorem q208 : (Jvm.Cond.fieldLinkNest "FunDesk$Operation" (51 : Nat) "FunDesk" "number" "LFunDesk$Type;" "FunDesk") ∈ lw_tbl := lw_at lw_m1 102 rfl
theorem q213 : (Jvm.Cond.fieldLinkNest "FunDesk$Operation" (54 : Nat) "FunDesk" "truth" "LFunDesk$Type;" "FunDesk") ∈ lw_tbl := lw_at lw_m1 107 rfl
theorem q219 : (Jvm.Cond.fieldLinkNest "FunDesk$Name" (29 : Nat) "FunDesk" "stamp" "I" "FunDesk") ∈ lw_tbl := lw_at lw_m1 113 rfl
theorem q210 : (Jvm.Cond.fieldLinkNest "FunDesk$If" (31 : Nat) "FunDesk" "truth" "LFunDesk$Type;" "FunDesk") ∈ lw_tbl := lw_at lw_m1 104 rfl
theorem q234 : (Jvm.Cond.fieldLinkNest "FunDesk$If" (56 : Nat) "FunDesk" "args" "[I" "FunDesk") ∈ lw_tbl := lw_at lw_m1 128 rfl
theorem q239 : (Jvm.Cond.fieldLinkNest "FunDesk$If" (60 : Nat) "FunDesk" "size" "I" "FunDesk") ∈ lw_tbl := lw_at lw_m1 133 rfl
theorem q243 : (Jvm.Cond.fieldLinkNest "FunDesk$Case" (47 : Nat) "FunDesk" "inner" "LFunDesk$Scope;" "FunDesk") ∈ lw_tbl := lw_at lw_m1 137 rfl
theorem q238 : (Jvm.Cond.fieldLinkNest "FunDesk$Case" (76 : Nat) "FunDesk" "tests" "[LFunDesk$Pattern;" "FunDesk") ∈ lw_tbl := lw_at lw_m1 132 rfl
theorem q236 : (Jvm.Cond.fieldLinkNest "FunDesk$Case" (91 : Nat) "FunDesk" "args" "[I" "FunDesk") ∈ lw_tbl := lw_at lw_m1 130 rfl
theorem q240 : (Jvm.Cond.fieldLinkNest "FunDesk$Case" (95 : Nat) "FunDesk" "size" "I" "FunDesk") ∈ lw_tbl := lw_at lw_m1 134 rfl
theorem q206 : (Jvm.Cond.fieldLinkNest "FunDesk$Same" (22 : Nat) "FunDesk" "number" "LFunDesk$Type;" "FunDesk") ∈ lw_tbl := lw_at lw_m1 100 rfl
theorem q211 : (Jvm.Cond.fieldLinkNest "FunDesk$Same" (30 : Nat) "FunDesk" "truth" "LFunDesk$Type;" "FunDesk") ∈ lw_tbl := lw_at lw_m1 105 rfl
theorem q242 : (Jvm.Cond.fieldLinkNest "FunDesk$Any" (24 : Nat) "FunDesk" "inner" "LFunDesk$Scope;" "FunDesk") ∈ lw_tbl := lw_at lw_m1 136 rfl
theorem q248 : (Jvm.Cond.fieldLinkNest "FunDesk$Any" (30 : Nat) "FunDesk" "env" "LFunDesk$Env;" "FunDesk") ∈ lw_tbl := lw_at lw_m1 142 rfl
theorem q235 : (Jvm.Cond.fieldLinkNest "FunDesk$Function" (66 : Nat) "FunDesk" "args" "[I" "FunDesk") ∈ lw_tbl := lw_at lw_m1 129 rfl
theorem q218 : (Jvm.Cond.fieldLinkNest "FunDesk$Let" (35 : Nat) "FunDesk" "level" "I" "FunDesk") ∈ lw_tbl := lw_at lw_m1 112 rfl
def am_fn_0 : List (Nat × Nat × Nat) := [(5, 48, 128), (5, 52, 130), (5, 61, 129), (6, 47, 130), (6, 51, 128), (6, 54, 129), (7, 29, 132), (9, 31, 129), (9, 56, 145), (9, 60, 147), (10, 47, 148), (10, 76, 146), (10, 91, 145), (10, 95, 147), (11, 22, 128), (11, 30, 129), (12, 24, 148), (12, 30, 153), (14, 66, 145), (15, 35, 131)]
theorem am_fn_ok0 : ∀ x ∈ am_fn_0, Cond.fieldLinkNest (am_on x.1) x.2.1 (am_fld x.2.2).1 (am_fld x.2.2).2.1 (am_fld x.2.2).2.2.1 "FunDesk" ∈ lw_tbl := List.forall_mem_cons.mpr ⟨q207, List.forall_mem_cons.mpr ⟨q215, List.forall_mem_cons.mpr ⟨q212, List.forall_mem_cons.mpr ⟨q216, List.forall_mem_cons.mpr ⟨q208, List.forall_mem_cons.mpr ⟨q213, List.forall_mem_cons.mpr ⟨q219, List.forall_mem_cons.mpr ⟨q210, List.forall_mem_cons.mpr ⟨q234, List.forall_mem_cons.mpr ⟨q239, List.forall_mem_cons.mpr ⟨q243, List.forall_mem_cons.mpr ⟨q238, List.forall_mem_cons.mpr ⟨q236, List.forall_mem_cons.mpr ⟨q240, List.forall_mem_cons.mpr ⟨q206, List.forall_mem_cons.mpr ⟨q211, List.forall_mem_cons.mpr ⟨q242, List.forall_mem_cons.mpr ⟨q248, List.forall_mem_cons.mpr ⟨q235, List.forall_mem_cons.mpr ⟨q218, List.forall_mem_nil _⟩⟩⟩⟩⟩⟩⟩⟩⟩⟩⟩⟩⟩⟩⟩⟩⟩⟩⟩⟩
def am_fn : List (Nat × Nat × Nat) := am_fn_0
theorem am_fn_ok : ∀ x ∈ am_fn, Cond.fieldLinkNest (am_on x.1) x.2.1 (am_fld x.2.2).1 (am_fld x.2.2).2.1 (am_fld x.2.2).2.2.1 "FunDesk" ∈ lw_tbl := am_fn_ok0
theorem q152 : (Jvm.Cond.fieldLink "FunDesk" (9 : Nat) "FunDesk$Sort" "INT" "LFunDesk$Sort;") ∈ lw_all := lw_g (lw_at lw_m1 46 rfl) rfl
theorem q180 : (Jvm.Cond.fieldLink "FunDesk" (24 : Nat) "FunDesk$Sort" "BOOL" "LFunDesk$Sort;") ∈ lw_all := lw_g (lw_at lw_m1 74 rfl) rfl
theorem q182 : (Jvm.Cond.fieldLink "FunDesk" (30 : Nat) "FunDesk$Sort" "REAL" "LFunDesk$Sort;") ∈ lw_all := lw_g (lw_at lw_m1 76 rfl) rfl
theorem q1069 : (Jvm.Cond.fieldLink "FunDesk" (88 : Nat) "FunDesk$Sort" "VARIABLE" "LFunDesk$Sort;") ∈ lw_all := lw_g (lw_at lw_m5 3 rfl) rfl
theorem q757 : (Jvm.Cond.fieldLink "FunDesk" (102 : Nat) "FunDesk$Sort" "LIST" "LFunDesk$Sort;") ∈ lw_all := lw_g (lw_at lw_m3 171 rfl) rfl
theorem q733 : (Jvm.Cond.fieldLink "FunDesk" (105 : Nat) "FunDesk$Sort" "ARROW" "LFunDesk$Sort;") ∈ lw_all := lw_g (lw_at lw_m3 147 rfl) rfl
theorem q729 : (Jvm.Cond.fieldLink "FunDesk" (335 : Nat) "FunDesk$Op" "TRUTH" "LFunDesk$Op;") ∈ lw_all := lw_g (lw_at lw_m3 143 rfl) rfl
theorem q731 : (Jvm.Cond.fieldLink "FunDesk" (342 : Nat) "FunDesk$Op" "BUILT" "LFunDesk$Op;") ∈ lw_all := lw_g (lw_at lw_m3 145 rfl) rfl
theorem q755 : (Jvm.Cond.fieldLink "FunDesk" (348 : Nat) "FunDesk$Op" "NIL" "LFunDesk$Op;") ∈ lw_all := lw_g (lw_at lw_m3 169 rfl) rfl
theorem q711 : (Jvm.Cond.fieldLink "FunDesk" (358 : Nat) "FunDesk$Op" "NUMBER" "LFunDesk$Op;") ∈ lw_all := lw_g (lw_at lw_m3 125 rfl) rfl
theorem q727 : (Jvm.Cond.fieldLink "FunDesk" (361 : Nat) "FunDesk$Op" "REAL" "LFunDesk$Op;") ∈ lw_all := lw_g (lw_at lw_m3 141 rfl) rfl
theorem q364 : (Jvm.Cond.fieldLink "FunDesk" (407 : Nat) "FunDesk$Op" "APPLY" "LFunDesk$Op;") ∈ lw_all := lw_g (lw_at lw_m2 18 rfl) rfl
theorem q366 : (Jvm.Cond.fieldLink "FunDesk" (410 : Nat) "FunDesk$Op" "WORK" "LFunDesk$Op;") ∈ lw_all := lw_g (lw_at lw_m2 20 rfl) rfl
theorem q368 : (Jvm.Cond.fieldLink "FunDesk" (413 : Nat) "FunDesk$Op" "BIND" "LFunDesk$Op;") ∈ lw_all := lw_g (lw_at lw_m2 22 rfl) rfl
theorem q370 : (Jvm.Cond.fieldLink "FunDesk" (416 : Nat) "FunDesk$Op" "TIE" "LFunDesk$Op;") ∈ lw_all := lw_g (lw_at lw_m2 24 rfl) rfl
theorem q372 : (Jvm.Cond.fieldLink "FunDesk" (419 : Nat) "FunDesk$Op" "BRANCH" "LFunDesk$Op;") ∈ lw_all := lw_g (lw_at lw_m2 26 rfl) rfl
theorem q374 : (Jvm.Cond.fieldLink "FunDesk" (422 : Nat) "FunDesk$Op" "LOOK" "LFunDesk$Op;") ∈ lw_all := lw_g (lw_at lw_m2 28 rfl) rfl
theorem q1081 : (Jvm.Cond.fieldLink "FunDesk$Type" (20 : Nat) "FunDesk$Sort" "VARIABLE" "LFunDesk$Sort;") ∈ lw_all := lw_g (lw_at lw_m5 15 rfl) rfl
theorem q1217 : (Jvm.Cond.fieldLink "FunDesk$Plain" (21 : Nat) "FunDesk$Op" "NIL" "LFunDesk$Op;") ∈ lw_all := lw_g (lw_at lw_m5 151 rfl) rfl
theorem q1219 : (Jvm.Cond.fieldLink "FunDesk$Plain" (28 : Nat) "FunDesk$Sort" "LIST" "LFunDesk$Sort;") ∈ lw_all := lw_g (lw_at lw_m5 153 rfl) rfl
theorem q1222 : (Jvm.Cond.fieldLink "FunDesk$Plain" (42 : Nat) "FunDesk$Op" "BUILT" "LFunDesk$Op;") ∈ lw_all := lw_g (lw_at lw_m5 156 rfl) rfl
theorem q1223 : (Jvm.Cond.fieldLink "FunDesk$Plain" (45 : Nat) "FunDesk$Sort" "ARROW" "LFunDesk$Sort;") ∈ lw_all := lw_g (lw_at lw_m5 157 rfl) rfl
theorem q1224 : (Jvm.Cond.fieldLink "FunDesk$Plain" (55 : Nat) "FunDesk$Sort" "INT" "LFunDesk$Sort;") ∈ lw_all := lw_g (lw_at lw_m5 158 rfl) rfl
theorem q1225 : (Jvm.Cond.fieldLink "FunDesk$Plain" (58 : Nat) "FunDesk$Sort" "BOOL" "LFunDesk$Sort;") ∈ lw_all := lw_g (lw_at lw_m5 159 rfl) rfl
theorem q1209 : (Jvm.Cond.fieldLink "FunDesk$Operation" (34 : Nat) "FunDesk$Sort" "LIST" "LFunDesk$Sort;") ∈ lw_all := lw_g (lw_at lw_m5 143 rfl) rfl
theorem q1295 : (Jvm.Cond.fieldLink "FunDesk$Operation" (61 : Nat) "FunDesk$Op" "WORK" "LFunDesk$Op;") ∈ lw_all := lw_g (lw_at lw_m5 229 rfl) rfl
theorem q1276 : (Jvm.Cond.fieldLink "FunDesk$Name" (37 : Nat) "FunDesk$Op" "LOAD" "LFunDesk$Op;") ∈ lw_all := lw_g (lw_at lw_m5 210 rfl) rfl
theorem q1072 : (Jvm.Cond.fieldLink "FunDesk$Applied" (34 : Nat) "FunDesk$Sort" "ARROW" "LFunDesk$Sort;") ∈ lw_all := lw_g (lw_at lw_m5 6 rfl) rfl
theorem q1317 : (Jvm.Cond.fieldLink "FunDesk$Applied" (51 : Nat) "FunDesk$Op" "APPLY" "LFunDesk$Op;") ∈ lw_all := lw_g (lw_at lw_m6 11 rfl) rfl
theorem q1302 : (Jvm.Cond.fieldLink "FunDesk$If" (43 : Nat) "FunDesk$Op" "BRANCH" "LFunDesk$Op;") ∈ lw_all := lw_g (lw_at lw_m5 236 rfl) rfl
theorem q1304 : (Jvm.Cond.fieldLink "FunDesk$If" (53 : Nat) "FunDesk$Op" "JUMP" "LFunDesk$Op;") ∈ lw_all := lw_g (lw_at lw_m5 238 rfl) rfl
theorem q1308 : (Jvm.Cond.fieldLink "FunDesk$Case" (63 : Nat) "FunDesk$Op" "LOOK" "LFunDesk$Op;") ∈ lw_all := lw_g (lw_at lw_m6 2 rfl) rfl
theorem q1310 : (Jvm.Cond.fieldLink "FunDesk$Case" (73 : Nat) "FunDesk$Op" "TEST" "LFunDesk$Op;") ∈ lw_all := lw_g (lw_at lw_m6 4 rfl) rfl
theorem q1313 : (Jvm.Cond.fieldLink "FunDesk$Case" (85 : Nat) "FunDesk$Op" "DROP" "LFunDesk$Op;") ∈ lw_all := lw_g (lw_at lw_m6 7 rfl) rfl
theorem q1314 : (Jvm.Cond.fieldLink "FunDesk$Case" (88 : Nat) "FunDesk$Op" "JUMP" "LFunDesk$Op;") ∈ lw_all := lw_g (lw_at lw_m6 8 rfl) rfl
theorem q1315 : (Jvm.Cond.fieldLink "FunDesk$Case" (98 : Nat) "FunDesk$Op" "MISS" "LFunDesk$Op;") ∈ lw_all := lw_g (lw_at lw_m6 9 rfl) rfl
theorem q1144 : (Jvm.Cond.fieldLink "FunDesk$Same" (17 : Nat) "FunDesk$Sort" "INT" "LFunDesk$Sort;") ∈ lw_all := lw_g (lw_at lw_m5 78 rfl) rfl
theorem q1145 : (Jvm.Cond.fieldLink "FunDesk$Same" (27 : Nat) "FunDesk$Sort" "BOOL" "LFunDesk$Sort;") ∈ lw_all := lw_g (lw_at lw_m5 79 rfl) rfl
theorem q554 : (Jvm.Cond.fieldLink "FunDesk$Same" (35 : Nat) "FunDesk$Sort" "LIST" "LFunDesk$Sort;") ∈ lw_all := lw_g (lw_at lw_m2 208 rfl) rfl
theorem q1135 : (Jvm.Cond.fieldLink "FunDesk$Both" (24 : Nat) "FunDesk$Sort" "LIST" "LFunDesk$Sort;") ∈ lw_all := lw_g (lw_at lw_m5 69 rfl) rfl
theorem q1161 : (Jvm.Cond.fieldLink "FunDesk$Function" (36 : Nat) "FunDesk$Sort" "ARROW" "LFunDesk$Sort;") ∈ lw_all := lw_g (lw_at lw_m5 95 rfl) rfl
theorem q1249 : (Jvm.Cond.fieldLink "FunDesk$Function" (49 : Nat) "FunDesk$Op" "CLOSE" "LFunDesk$Op;") ∈ lw_all := lw_g (lw_at lw_m5 183 rfl) rfl
theorem q1306 : (Jvm.Cond.fieldLink "FunDesk$Function" (63 : Nat) "FunDesk$Op" "RETURN" "LFunDesk$Op;") ∈ lw_all := lw_g (lw_at lw_m6 0 rfl) rfl
theorem q1297 : (Jvm.Cond.fieldLink "FunDesk$Let" (65 : Nat) "FunDesk$Op" "TIE" "LFunDesk$Op;") ∈ lw_all := lw_g (lw_at lw_m5 231 rfl) rfl
theorem q1298 : (Jvm.Cond.fieldLink "FunDesk$Let" (71 : Nat) "FunDesk$Op" "BIND" "LFunDesk$Op;") ∈ lw_all := lw_g (lw_at lw_m5 232 rfl) rfl
theorem q1300 : (Jvm.Cond.fieldLink "FunDesk$Let" (78 : Nat) "FunDesk$Op" "DROP" "LFunDesk$Op;") ∈ lw_all := lw_g (lw_at lw_m5 234 rfl) rfl
def am_sl_0 : List (Nat × Nat × Nat) := [(1, 9, 1), (1, 24, 2), (1, 30, 3), (1, 88, 0), (1, 102, 4), (1, 105, 5), (1, 335, 7), (1, 342, 10), (1, 348, 9), (1, 358, 6), (1, 361, 8), (1, 407, 14), (1, 410, 15), (1, 413, 16), (1, 416, 17), (1, 419, 19), (1, 422, 21), (2, 20, 0), (5, 21, 9), (5, 28, 4), (5, 42, 10), (5, 45, 5), (5, 55, 1), (5, 58, 2), (6, 34, 4)]
theorem am_sl_ok0 : ∀ x ∈ am_sl_0, Cond.fieldLink (am_on x.1) x.2.1 (am_sta.getD x.2.2 ("", "", "")).1 (am_sta.getD x.2.2 ("", "", "")).2.1 (am_sta.getD x.2.2 ("", "", "")).2.2 ∈ lw_all := List.forall_mem_cons.mpr ⟨q152, List.forall_mem_cons.mpr ⟨q180, List.forall_mem_cons.mpr ⟨q182, List.forall_mem_cons.mpr ⟨q1069, List.forall_mem_cons.mpr ⟨q757, List.forall_mem_cons.mpr ⟨q733, List.forall_mem_cons.mpr ⟨q729, List.forall_mem_cons.mpr ⟨q731, List.forall_mem_cons.mpr ⟨q755, List.forall_mem_cons.mpr ⟨q711, List.forall_mem_cons.mpr ⟨q727, List.forall_mem_cons.mpr ⟨q364, List.forall_mem_cons.mpr ⟨q366, List.forall_mem_cons.mpr ⟨q368, List.forall_mem_cons.mpr ⟨q370, List.forall_mem_cons.mpr ⟨q372, List.forall_mem_cons.mpr ⟨q374, List.forall_mem_cons.mpr ⟨q1081, List.forall_mem_cons.mpr ⟨q1217, List.forall_mem_cons.mpr ⟨q1219, List.forall_mem_cons.mpr ⟨q1222, List.forall_mem_cons.mpr ⟨q1223, List.forall_mem_cons.mpr ⟨q1224, List.forall_mem_cons.mpr ⟨q1225, List.forall_mem_cons.mpr ⟨q1209, List.forall_mem_nil _⟩⟩⟩⟩⟩⟩⟩⟩⟩⟩⟩⟩⟩⟩⟩⟩⟩⟩⟩⟩⟩⟩⟩⟩⟩
def am_sl_1 : List (Nat × Nat × Nat) := [(6, 61, 15), (7, 37, 11), (8, 34, 5), (8, 51, 14), (9, 43, 19), (9, 53, 20), (10, 63, 21), (10, 73, 22), (10, 85, 18), (10, 88, 20), (10, 98, 23), (11, 17, 1), (11, 27, 2), (11, 35, 4), (13, 24, 4), (14, 36, 5), (14, 49, 12), (14, 63, 13), (15, 65, 17), (15, 71, 16), (15, 78, 18)]
theorem am_sl_ok1 : ∀ x ∈ am_sl_1, Cond.fieldLink (am_on x.1) x.2.1 (am_sta.getD x.2.2 ("", "", "")).1 (am_sta.getD x.2.2 ("", "", "")).2.1 (am_sta.getD x.2.2 ("", "", "")).2.2 ∈ lw_all := List.forall_mem_cons.mpr ⟨q1295, List.forall_mem_cons.mpr ⟨q1276, List.forall_mem_cons.mpr ⟨q1072, List.forall_mem_cons.mpr ⟨q1317, List.forall_mem_cons.mpr ⟨q1302, List.forall_mem_cons.mpr ⟨q1304, List.forall_mem_cons.mpr ⟨q1308, List.forall_mem_cons.mpr ⟨q1310, List.forall_mem_cons.mpr ⟨q1313, List.forall_mem_cons.mpr ⟨q1314, List.forall_mem_cons.mpr ⟨q1315, List.forall_mem_cons.mpr ⟨q1144, List.forall_mem_cons.mpr ⟨q1145, List.forall_mem_cons.mpr ⟨q554, List.forall_mem_cons.mpr ⟨q1135, List.forall_mem_cons.mpr ⟨q1161, List.forall_mem_cons.mpr ⟨q1249, List.forall_mem_cons.mpr ⟨q1306, List.forall_mem_cons.mpr ⟨q1297, List.forall_mem_cons.mpr ⟨q1298, List.forall_mem_cons.mpr ⟨q1300, List.forall_mem_nil _⟩⟩⟩⟩⟩⟩⟩⟩⟩⟩⟩⟩⟩⟩⟩⟩⟩⟩⟩⟩⟩
def am_sl : List (Nat × Nat × Nat) := am_sl_0 ++ am_sl_1
theorem am_sl_ok : ∀ x ∈ am_sl, Cond.fieldLink (am_on x.1) x.2.1 (am_sta.getD x.2.2 ("", "", "")).1 (am_sta.getD x.2.2 ("", "", "")).2.1 (am_sta.getD x.2.2 ("", "", "")).2.2 ∈ lw_all := List.forall_mem_append.mpr ⟨am_sl_ok0, am_sl_ok1⟩
theorem q573 : (Jvm.Cond.methodLink "FunDeskLaw" (7 : Nat) ({ cls := "FunDesk", name := "load", desc := "()I" } : Jvm.MethodName)) ∈ lw_all := lw_g (lw_at lw_m2 227 rfl) rfl
theorem q1338 : (Jvm.Cond.methodLink "FunDeskLaw" (19 : Nat) ({ cls := "FunDesk", name := "value", desc := "(I)I" } : Jvm.MethodName)) ∈ lw_all := lw_g (lw_at lw_m6 32 rfl) rfl
theorem q1383 : (Jvm.Cond.methodLink "FunDeskLaw" (27 : Nat) ({ cls := "FunDesk", name := "real", desc := "()D" } : Jvm.MethodName)) ∈ lw_all := lw_g (lw_at lw_m6 77 rfl) rfl
theorem q1390 : (Jvm.Cond.methodLink "FunDeskLaw" (31 : Nat) ({ cls := "FunDesk", name := "item", desc := "(I)V" } : Jvm.MethodName)) ∈ lw_all := lw_g (lw_at lw_m6 84 rfl) rfl
theorem q1398 : (Jvm.Cond.methodLink "FunDeskLaw" (35 : Nat) ({ cls := "FunDesk", name := "top", desc := "()V" } : Jvm.MethodName)) ∈ lw_all := lw_g (lw_at lw_m6 92 rfl) rfl
theorem q144 : (Jvm.Cond.methodLink "FunDeskLaw" (38 : Nat) ({ cls := "FunDesk", name := "<init>", desc := "()V" } : Jvm.MethodName)) ∈ lw_all := lw_g (lw_at lw_m1 38 rfl) rfl
theorem q1404 : (Jvm.Cond.methodLink "FunDeskLaw" (41 : Nat) ({ cls := "FunDeskModel", name := "<init>", desc := "()V" } : Jvm.MethodName)) ∈ lw_all := lw_g (lw_at lw_m6 98 rfl) rfl
theorem q345 : (Jvm.Cond.methodLink "FunDeskLaw" (42 : Nat) ({ cls := "FunDesk", name := "type", desc := "(C)Z" } : Jvm.MethodName)) ∈ lw_all := lw_g (lw_at lw_m1 239 rfl) rfl
theorem q1632 : (Jvm.Cond.methodLink "FunDeskLaw" (46 : Nat) ({ cls := "FunDeskModel", name := "type", desc := "(C)Z" } : Jvm.MethodName)) ∈ lw_all := lw_g (lw_at lw_m7 86 rfl) rfl
theorem q349 : (Jvm.Cond.methodLink "FunDeskLaw" (47 : Nat) ({ cls := "FunDesk", name := "wipe", desc := "()V" } : Jvm.MethodName)) ∈ lw_all := lw_g (lw_at lw_m2 3 rfl) rfl
theorem q1636 : (Jvm.Cond.methodLink "FunDeskLaw" (50 : Nat) ({ cls := "FunDeskModel", name := "wipe", desc := "()V" } : Jvm.MethodName)) ∈ lw_all := lw_g (lw_at lw_m7 90 rfl) rfl
theorem q567 : (Jvm.Cond.methodLink "FunDeskLaw" (51 : Nat) ({ cls := "FunDeskLaw", name := "load", desc := "(LFunDesk;[J)I" } : Jvm.MethodName)) ∈ lw_all := lw_g (lw_at lw_m2 221 rfl) rfl
theorem q1640 : (Jvm.Cond.methodLink "FunDeskLaw" (56 : Nat) ({ cls := "FunDeskModel", name := "load", desc := "()I" } : Jvm.MethodName)) ∈ lw_all := lw_g (lw_at lw_m7 94 rfl) rfl
theorem q1628 : (Jvm.Cond.methodLink "FunDeskLaw" (57 : Nat) ({ cls := "FunDeskModel", name := "thrown", desc := "()I" } : Jvm.MethodName)) ∈ lw_all := lw_g (lw_at lw_m7 82 rfl) rfl
theorem q353 : (Jvm.Cond.methodLink "FunDeskLaw" (60 : Nat) ({ cls := "FunDesk", name := "shown", desc := "(I)I" } : Jvm.MethodName)) ∈ lw_all := lw_g (lw_at lw_m2 7 rfl) rfl
theorem q1842 : (Jvm.Cond.methodLink "FunDeskLaw" (63 : Nat) ({ cls := "FunDeskModel", name := "shown", desc := "(I)I" } : Jvm.MethodName)) ∈ lw_all := lw_g (lw_at lw_m8 56 rfl) rfl
theorem q357 : (Jvm.Cond.methodLink "FunDeskLaw" (64 : Nat) ({ cls := "FunDesk", name := "run", desc := "(I)I" } : Jvm.MethodName)) ∈ lw_all := lw_g (lw_at lw_m2 11 rfl) rfl
theorem q1846 : (Jvm.Cond.methodLink "FunDeskLaw" (67 : Nat) ({ cls := "FunDeskModel", name := "run", desc := "(I)I" } : Jvm.MethodName)) ∈ lw_all := lw_g (lw_at lw_m8 60 rfl) rfl
theorem q563 : (Jvm.Cond.methodLink "FunDeskLaw" (68 : Nat) ({ cls := "FunDesk", name := "state", desc := "(I)I" } : Jvm.MethodName)) ∈ lw_all := lw_g (lw_at lw_m2 217 rfl) rfl
theorem q1929 : (Jvm.Cond.methodLink "FunDeskLaw" (71 : Nat) ({ cls := "FunDeskModel", name := "state", desc := "(I)I" } : Jvm.MethodName)) ∈ lw_all := lw_g (lw_at lw_m8 143 rfl) rfl
theorem q1333 : (Jvm.Cond.methodLink "FunDeskLaw" (72 : Nat) ({ cls := "FunDeskLaw", name := "value", desc := "(LFunDesk;I[J)I" } : Jvm.MethodName)) ∈ lw_all := lw_g (lw_at lw_m6 27 rfl) rfl
theorem q1933 : (Jvm.Cond.methodLink "FunDeskLaw" (75 : Nat) ({ cls := "FunDeskModel", name := "value", desc := "(I)I" } : Jvm.MethodName)) ∈ lw_all := lw_g (lw_at lw_m8 147 rfl) rfl
theorem q1380 : (Jvm.Cond.methodLink "FunDeskLaw" (76 : Nat) ({ cls := "FunDeskLaw", name := "real", desc := "(LFunDesk;[D)I" } : Jvm.MethodName)) ∈ lw_all := lw_g (lw_at lw_m6 74 rfl) rfl
theorem q1941 : (Jvm.Cond.methodLink "FunDeskLaw" (79 : Nat) ({ cls := "FunDeskModel", name := "real", desc := "()D" } : Jvm.MethodName)) ∈ lw_all := lw_g (lw_at lw_m8 155 rfl) rfl
theorem q1387 : (Jvm.Cond.methodLink "FunDeskLaw" (80 : Nat) ({ cls := "FunDeskLaw", name := "item", desc := "(LFunDesk;I)I" } : Jvm.MethodName)) ∈ lw_all := lw_g (lw_at lw_m6 81 rfl) rfl
theorem q1945 : (Jvm.Cond.methodLink "FunDeskLaw" (83 : Nat) ({ cls := "FunDeskModel", name := "item", desc := "(I)V" } : Jvm.MethodName)) ∈ lw_all := lw_g (lw_at lw_m8 159 rfl) rfl
theorem q1395 : (Jvm.Cond.methodLink "FunDeskLaw" (84 : Nat) ({ cls := "FunDeskLaw", name := "top", desc := "(LFunDesk;)I" } : Jvm.MethodName)) ∈ lw_all := lw_g (lw_at lw_m6 89 rfl) rfl
theorem q1949 : (Jvm.Cond.methodLink "FunDeskLaw" (87 : Nat) ({ cls := "FunDeskModel", name := "top", desc := "()V" } : Jvm.MethodName)) ∈ lw_all := lw_g (lw_at lw_m8 163 rfl) rfl
theorem q154 : (Jvm.Cond.methodLink "FunDesk" (15 : Nat) ({ cls := "FunDesk$Type", name := "<init>", desc := "(LFunDesk$Sort;LFunDesk$Type;LFunDesk$Type;)V" } : Jvm.MethodName)) ∈ lw_all := lw_g (lw_at lw_m1 48 rfl) rfl
theorem q1077 : (Jvm.Cond.methodLink "FunDesk" (96 : Nat) ({ cls := "FunDesk$Type", name := "real", desc := "()LFunDesk$Type;" } : Jvm.MethodName)) ∈ lw_all := lw_g (lw_at lw_m5 11 rfl) rfl
theorem q1085 : (Jvm.Cond.methodLink "FunDesk" (111 : Nat) ({ cls := "FunDesk", name := "room", desc := "(LFunDesk$Type;I)I" } : Jvm.MethodName)) ∈ lw_all := lw_g (lw_at lw_m5 19 rfl) rfl
theorem q1103 : (Jvm.Cond.methodLink "FunDesk" (127 : Nat) ({ cls := "FunDesk", name := "occurs", desc := "(LFunDesk$Type;LFunDesk$Type;)Z" } : Jvm.MethodName)) ∈ lw_all := lw_g (lw_at lw_m5 37 rfl) rfl
theorem q1082 : (Jvm.Cond.methodLink "FunDesk" (131 : Nat) ({ cls := "FunDesk", name := "fitting", desc := "(LFunDesk$Type;)V" } : Jvm.MethodName)) ∈ lw_all := lw_g (lw_at lw_m5 16 rfl) rfl
theorem q1102 : (Jvm.Cond.methodLink "FunDesk" (135 : Nat) ({ cls := "FunDesk", name := "unify", desc := "(LFunDesk$Type;LFunDesk$Type;)V" } : Jvm.MethodName)) ∈ lw_all := lw_g (lw_at lw_m5 36 rfl) rfl
theorem q1183 : (Jvm.Cond.methodLink "FunDesk" (139 : Nat) ({ cls := "FunDesk", name := "generalize", desc := "(LFunDesk$Type;I)V" } : Jvm.MethodName)) ∈ lw_all := lw_g (lw_at lw_m5 117 rfl) rfl
theorem q1197 : (Jvm.Cond.methodLink "FunDesk" (143 : Nat) ({ cls := "FunDesk", name := "generic", desc := "(LFunDesk$Type;)Z" } : Jvm.MethodName)) ∈ lw_all := lw_g (lw_at lw_m5 131 rfl) rfl
theorem q1200 : (Jvm.Cond.methodLink "FunDesk" (151 : Nat) ({ cls := "FunDesk", name := "fresh", desc := "()LFunDesk$Type;" } : Jvm.MethodName)) ∈ lw_all := lw_g (lw_at lw_m5 134 rfl) rfl
theorem q1201 : (Jvm.Cond.methodLink "FunDesk" (157 : Nat) ({ cls := "FunDesk", name := "instance", desc := "(LFunDesk;LFunDesk$Type;)LFunDesk$Type;" } : Jvm.MethodName)) ∈ lw_all := lw_g (lw_at lw_m5 135 rfl) rfl
theorem q1325 : (Jvm.Cond.methodLink "FunDesk" (167 : Nat) ({ cls := "FunDesk", name := "print", desc := "(C)V" } : Jvm.MethodName)) ∈ lw_all := lw_g (lw_at lw_m6 19 rfl) rfl
theorem q1329 : (Jvm.Cond.methodLink "FunDesk" (175 : Nat) ({ cls := "FunDesk", name := "printVariable", desc := "(LFunDesk$Type;)V" } : Jvm.MethodName)) ∈ lw_all := lw_g (lw_at lw_m6 23 rfl) rfl
theorem q1319 : (Jvm.Cond.methodLink "FunDesk" (178 : Nat) ({ cls := "FunDesk", name := "printType", desc := "(LFunDesk;LFunDesk$Type;)V" } : Jvm.MethodName)) ∈ lw_all := lw_g (lw_at lw_m6 13 rfl) rfl
theorem q993 : (Jvm.Cond.methodLink "FunDesk" (182 : Nat) ({ cls := "FunDesk$Scope", name := "name", desc := "()C" } : Jvm.MethodName)) ∈ lw_all := lw_g (lw_at lw_m4 167 rfl) rfl
theorem q997 : (Jvm.Cond.methodLink "FunDesk" (188 : Nat) ({ cls := "FunDesk$Scope", name := "next", desc := "()LFunDesk$Scope;" } : Jvm.MethodName)) ∈ lw_all := lw_g (lw_at lw_m4 171 rfl) rfl
theorem q1149 : (Jvm.Cond.methodLink "FunDesk" (201 : Nat) ({ cls := "FunDesk", name := "keep", desc := "(LFunDesk$Type;)LFunDesk$Type;" } : Jvm.MethodName)) ∈ lw_all := lw_g (lw_at lw_m5 83 rfl) rfl
theorem q659 : (Jvm.Cond.methodLink "FunDesk" (220 : Nat) ({ cls := "FunDesk", name := "here", desc := "()C" } : Jvm.MethodName)) ∈ lw_all := lw_g (lw_at lw_m3 73 rfl) rfl
theorem q655 : (Jvm.Cond.methodLink "FunDesk" (223 : Nat) ({ cls := "FunDesk", name := "peek", desc := "()C" } : Jvm.MethodName)) ∈ lw_all := lw_g (lw_at lw_m3 69 rfl) rfl
theorem q698 : (Jvm.Cond.methodLink "FunDesk" (226 : Nat) ({ cls := "FunDesk", name := "letter", desc := "(C)Z" } : Jvm.MethodName)) ∈ lw_all := lw_g (lw_at lw_m3 112 rfl) rfl
theorem q588 : (Jvm.Cond.methodLink "FunDesk" (230 : Nat) ({ cls := "FunDesk", name := "ill", desc := "(Z)V" } : Jvm.MethodName)) ∈ lw_all := lw_g (lw_at lw_m3 2 rfl) rfl
theorem q663 : (Jvm.Cond.methodLink "FunDesk" (237 : Nat) ({ cls := "FunDesk", name := "inner", desc := "(C)LFunDesk$Expr;" } : Jvm.MethodName)) ∈ lw_all := lw_g (lw_at lw_m3 77 rfl) rfl
theorem q667 : (Jvm.Cond.methodLink "FunDesk" (241 : Nat) ({ cls := "FunDesk", name := "cons", desc := "()LFunDesk$Expr;" } : Jvm.MethodName)) ∈ lw_all := lw_g (lw_at lw_m3 81 rfl) rfl
theorem q584 : (Jvm.Cond.methodLink "FunDesk" (245 : Nat) ({ cls := "FunDesk", name := "expr", desc := "()LFunDesk$Expr;" } : Jvm.MethodName)) ∈ lw_all := lw_g (lw_at lw_m2 238 rfl) rfl
theorem q758 : (Jvm.Cond.methodLink "FunDesk" (248 : Nat) ({ cls := "FunDesk", name := "eat", desc := "(C)Z" } : Jvm.MethodName)) ∈ lw_all := lw_g (lw_at lw_m3 172 rfl) rfl
theorem q809 : (Jvm.Cond.methodLink "FunDesk" (256 : Nat) ({ cls := "FunDesk", name := "cases", desc := "()LFunDesk$Expr;" } : Jvm.MethodName)) ∈ lw_all := lw_g (lw_at lw_m3 223 rfl) rfl
theorem q886 : (Jvm.Cond.methodLink "FunDesk" (259 : Nat) ({ cls := "FunDesk", name := "name", desc := "()C" } : Jvm.MethodName)) ∈ lw_all := lw_g (lw_at lw_m4 60 rfl) rfl
theorem q815 : (Jvm.Cond.methodLink "FunDesk" (272 : Nat) ({ cls := "FunDesk$Case", name := "<init>", desc := "(LFunDesk$Expr;)V" } : Jvm.MethodName)) ∈ lw_all := lw_g (lw_at lw_m3 229 rfl) rfl
theorem q838 : (Jvm.Cond.methodLink "FunDesk" (284 : Nat) ({ cls := "FunDesk", name := "pattern", desc := "()LFunDesk$Pattern;" } : Jvm.MethodName)) ∈ lw_all := lw_g (lw_at lw_m4 12 rfl) rfl
theorem q671 : (Jvm.Cond.methodLink "FunDesk" (292 : Nat) ({ cls := "FunDesk", name := "compare", desc := "()LFunDesk$Expr;" } : Jvm.MethodName)) ∈ lw_all := lw_g (lw_at lw_m3 85 rfl) rfl
theorem q789 : (Jvm.Cond.methodLink "FunDesk" (297 : Nat) ({ cls := "FunDesk", name := "tail", desc := "()LFunDesk$Expr;" } : Jvm.MethodName)) ∈ lw_all := lw_g (lw_at lw_m3 203 rfl) rfl
theorem q675 : (Jvm.Cond.methodLink "FunDesk" (303 : Nat) ({ cls := "FunDesk", name := "sum", desc := "()LFunDesk$Expr;" } : Jvm.MethodName)) ∈ lw_all := lw_g (lw_at lw_m3 89 rfl) rfl
theorem q785 : (Jvm.Cond.methodLink "FunDesk" (306 : Nat) ({ cls := "FunDesk", name := "sign", desc := "(I)I" } : Jvm.MethodName)) ∈ lw_all := lw_g (lw_at lw_m3 199 rfl) rfl
theorem q679 : (Jvm.Cond.methodLink "FunDesk" (310 : Nat) ({ cls := "FunDesk", name := "product", desc := "()LFunDesk$Expr;" } : Jvm.MethodName)) ∈ lw_all := lw_g (lw_at lw_m3 93 rfl) rfl
theorem q683 : (Jvm.Cond.methodLink "FunDesk" (313 : Nat) ({ cls := "FunDesk", name := "apply", desc := "()LFunDesk$Expr;" } : Jvm.MethodName)) ∈ lw_all := lw_g (lw_at lw_m3 97 rfl) rfl
theorem q695 : (Jvm.Cond.methodLink "FunDesk" (316 : Nat) ({ cls := "FunDesk", name := "digit", desc := "(C)Z" } : Jvm.MethodName)) ∈ lw_all := lw_g (lw_at lw_m3 109 rfl) rfl
theorem q687 : (Jvm.Cond.methodLink "FunDesk" (319 : Nat) ({ cls := "FunDesk", name := "atom", desc := "()LFunDesk$Expr;" } : Jvm.MethodName)) ∈ lw_all := lw_g (lw_at lw_m3 101 rfl) rfl
theorem q691 : (Jvm.Cond.methodLink "FunDesk" (322 : Nat) ({ cls := "FunDesk", name := "begins", desc := "(C)Z" } : Jvm.MethodName)) ∈ lw_all := lw_g (lw_at lw_m3 105 rfl) rfl
theorem q701 : (Jvm.Cond.methodLink "FunDesk" (330 : Nat) ({ cls := "FunDesk", name := "figures", desc := "()LFunDesk$Expr;" } : Jvm.MethodName)) ∈ lw_all := lw_g (lw_at lw_m3 115 rfl) rfl
theorem q737 : (Jvm.Cond.methodLink "FunDesk" (345 : Nat) ({ cls := "FunDesk", name := "operand", desc := "()LFunDesk$Expr;" } : Jvm.MethodName)) ∈ lw_all := lw_g (lw_at lw_m3 151 rfl) rfl
theorem q705 : (Jvm.Cond.methodLink "FunDesk" (355 : Nat) ({ cls := "FunDesk", name := "digits", desc := "(I)I" } : Jvm.MethodName)) ∈ lw_all := lw_g (lw_at lw_m3 119 rfl) rfl
theorem q842 : (Jvm.Cond.methodLink "FunDesk" (363 : Nat) ({ cls := "FunDesk", name := "part", desc := "()LFunDesk$Pattern;" } : Jvm.MethodName)) ∈ lw_all := lw_g (lw_at lw_m4 16 rfl) rfl
theorem q871 : (Jvm.Cond.methodLink "FunDesk" (368 : Nat) ({ cls := "FunDesk", name := "more", desc := "()LFunDesk$Pattern;" } : Jvm.MethodName)) ∈ lw_all := lw_g (lw_at lw_m4 45 rfl) rfl
theorem q376 : (Jvm.Cond.methodLink "FunDesk" (388 : Nat) ({ cls := "FunDesk", name := "fail", desc := "(I)V" } : Jvm.MethodName)) ∈ lw_all := lw_g (lw_at lw_m2 30 rfl) rfl
theorem q454 : (Jvm.Cond.methodLink "FunDesk" (394 : Nat) ({ cls := "FunDesk$Whole", name := "number", desc := "()I" } : Jvm.MethodName)) ∈ lw_all := lw_g (lw_at lw_m2 108 rfl) rfl
theorem q462 : (Jvm.Cond.methodLink "FunDesk" (398 : Nat) ({ cls := "FunDesk$Broken", name := "number", desc := "()D" } : Jvm.MethodName)) ∈ lw_all := lw_g (lw_at lw_m2 116 rfl) rfl
theorem q400 : (Jvm.Cond.methodLink "FunDesk" (431 : Nat) ({ cls := "FunDesk", name := "push", desc := "(LFunDesk$Value;)V" } : Jvm.MethodName)) ∈ lw_all := lw_g (lw_at lw_m2 54 rfl) rfl
theorem q438 : (Jvm.Cond.methodLink "FunDesk" (460 : Nat) ({ cls := "FunDesk", name := "pop", desc := "()LFunDesk$Value;" } : Jvm.MethodName)) ∈ lw_all := lw_g (lw_at lw_m2 92 rfl) rfl
theorem q442 : (Jvm.Cond.methodLink "FunDesk" (464 : Nat) ({ cls := "FunDesk", name := "call", desc := "(LFunDesk$Value;LFunDesk$Value;)V" } : Jvm.MethodName)) ∈ lw_all := lw_g (lw_at lw_m2 96 rfl) rfl
theorem q488 : (Jvm.Cond.methodLink "FunDesk" (468 : Nat) ({ cls := "FunDesk", name := "work", desc := "(I)V" } : Jvm.MethodName)) ∈ lw_all := lw_g (lw_at lw_m2 142 rfl) rfl
theorem q471 : (Jvm.Cond.methodLink "FunDesk" (471 : Nat) ({ cls := "FunDesk$Env", name := "<init>", desc := "(LFunDesk$Value;LFunDesk$Env;)V" } : Jvm.MethodName)) ∈ lw_all := lw_g (lw_at lw_m2 125 rfl) rfl
theorem q515 : (Jvm.Cond.methodLink "FunDesk" (474 : Nat) ({ cls := "FunDesk", name := "tie", desc := "(LFunDesk$Value;)V" } : Jvm.MethodName)) ∈ lw_all := lw_g (lw_at lw_m2 169 rfl) rfl
theorem q450 : (Jvm.Cond.methodLink "FunDesk" (477 : Nat) ({ cls := "FunDesk", name := "whole", desc := "(LFunDesk$Value;)I" } : Jvm.MethodName)) ∈ lw_all := lw_g (lw_at lw_m2 104 rfl) rfl
theorem q519 : (Jvm.Cond.methodLink "FunDesk" (481 : Nat) ({ cls := "FunDesk", name := "test", desc := "(I)V" } : Jvm.MethodName)) ∈ lw_all := lw_g (lw_at lw_m2 173 rfl) rfl
theorem q446 : (Jvm.Cond.methodLink "FunDesk" (484 : Nat) ({ cls := "FunDesk$Built", name := "name", desc := "()I" } : Jvm.MethodName)) ∈ lw_all := lw_g (lw_at lw_m2 100 rfl) rfl
theorem q458 : (Jvm.Cond.methodLink "FunDesk" (486 : Nat) ({ cls := "FunDesk", name := "broken", desc := "(LFunDesk$Value;)D" } : Jvm.MethodName)) ∈ lw_all := lw_g (lw_at lw_m2 112 rfl) rfl
theorem q467 : (Jvm.Cond.methodLink "FunDesk" (490 : Nat) ({ cls := "FunDesk$Closure", name := "env", desc := "()LFunDesk$Env;" } : Jvm.MethodName)) ∈ lw_all := lw_g (lw_at lw_m2 121 rfl) rfl
theorem q484 : (Jvm.Cond.methodLink "FunDesk" (493 : Nat) ({ cls := "FunDesk$Closure", name := "at", desc := "()I" } : Jvm.MethodName)) ∈ lw_all := lw_g (lw_at lw_m2 138 rfl) rfl
theorem q505 : (Jvm.Cond.methodLink "FunDesk" (503 : Nat) ({ cls := "FunDesk", name := "workReal", desc := "(IDD)V" } : Jvm.MethodName)) ∈ lw_all := lw_g (lw_at lw_m2 159 rfl) rfl
theorem q511 : (Jvm.Cond.methodLink "FunDesk" (507 : Nat) ({ cls := "FunDesk", name := "workWhole", desc := "(III)V" } : Jvm.MethodName)) ∈ lw_all := lw_g (lw_at lw_m2 165 rfl) rfl
theorem q1052 : (Jvm.Cond.methodLink "FunDesk" (527 : Nat) ({ cls := "FunDesk", name := "exprType", desc := "(LFunDesk$Expr;LFunDesk;LFunDesk$Scope;)LFunDesk$Type;" } : Jvm.MethodName)) ∈ lw_all := lw_g (lw_at lw_m4 226 rfl) rfl
theorem q577 : (Jvm.Cond.methodLink "FunDesk" (534 : Nat) ({ cls := "FunDesk", name := "attempt", desc := "()I" } : Jvm.MethodName)) ∈ lw_all := lw_g (lw_at lw_m2 231 rfl) rfl
theorem q361 : (Jvm.Cond.methodLink "FunDesk" (552 : Nat) ({ cls := "FunDesk", name := "counts", desc := "(LFunDesk$Op;)Z" } : Jvm.MethodName)) ∈ lw_all := lw_g (lw_at lw_m2 15 rfl) rfl
theorem q380 : (Jvm.Cond.methodLink "FunDesk" (562 : Nat) ({ cls := "FunDesk", name := "execute", desc := "()V" } : Jvm.MethodName)) ∈ lw_all := lw_g (lw_at lw_m2 34 rfl) rfl
theorem q1379 : (Jvm.Cond.methodLink "FunDesk" (568 : Nat) ({ cls := "FunDesk$Cons", name := "rest", desc := "()LFunDesk$Value;" } : Jvm.MethodName)) ∈ lw_all := lw_g (lw_at lw_m6 73 rfl) rfl
theorem q1342 : (Jvm.Cond.methodLink "FunDesk" (571 : Nat) ({ cls := "FunDesk", name := "known", desc := "()V" } : Jvm.MethodName)) ∈ lw_all := lw_g (lw_at lw_m6 36 rfl) rfl
theorem q1376 : (Jvm.Cond.methodLink "FunDesk" (577 : Nat) ({ cls := "FunDesk", name := "items", desc := "(LFunDesk$Value;)I" } : Jvm.MethodName)) ∈ lw_all := lw_g (lw_at lw_m6 70 rfl) rfl
theorem q1394 : (Jvm.Cond.methodLink "FunDesk" (580 : Nat) ({ cls := "FunDesk$Cons", name := "first", desc := "()LFunDesk$Value;" } : Jvm.MethodName)) ∈ lw_all := lw_g (lw_at lw_m6 88 rfl) rfl
theorem q194 : (Jvm.Cond.methodLink "FunDesk$Nil" (1 : Nat) ({ cls := "java/lang/Record", name := "<init>", desc := "()V" } : Jvm.MethodName)) ∈ lw_all := lw_g (lw_at lw_m1 88 rfl) rfl
theorem q1664 : (Jvm.Cond.methodLink "FunDeskModel" (141 : Nat) ({ cls := "FunDeskModel", name := "here", desc := "()C" } : Jvm.MethodName)) ∈ lw_all := lw_g (lw_at lw_m7 118 rfl) rfl
theorem q1660 : (Jvm.Cond.methodLink "FunDeskModel" (145 : Nat) ({ cls := "FunDeskModel", name := "peek", desc := "()C" } : Jvm.MethodName)) ∈ lw_all := lw_g (lw_at lw_m7 114 rfl) rfl
theorem q1683 : (Jvm.Cond.methodLink "FunDeskModel" (148 : Nat) ({ cls := "FunDeskModel", name := "eat", desc := "(C)Z" } : Jvm.MethodName)) ∈ lw_all := lw_g (lw_at lw_m7 137 rfl) rfl
theorem q1715 : (Jvm.Cond.methodLink "FunDeskModel" (156 : Nat) ({ cls := "FunDeskModel", name := "digit", desc := "(C)Z" } : Jvm.MethodName)) ∈ lw_all := lw_g (lw_at lw_m7 169 rfl) rfl
theorem q1676 : (Jvm.Cond.methodLink "FunDeskModel" (159 : Nat) ({ cls := "FunDeskModel", name := "letter", desc := "(C)Z" } : Jvm.MethodName)) ∈ lw_all := lw_g (lw_at lw_m7 130 rfl) rfl
theorem q1648 : (Jvm.Cond.methodLink "FunDeskModel" (171 : Nat) ({ cls := "FunDeskModel", name := "begin", desc := "(I)V" } : Jvm.MethodName)) ∈ lw_all := lw_g (lw_at lw_m7 102 rfl) rfl
theorem q1656 : (Jvm.Cond.methodLink "FunDeskModel" (178 : Nat) ({ cls := "FunDeskModel", name := "deeper", desc := "()V" } : Jvm.MethodName)) ∈ lw_all := lw_g (lw_at lw_m7 110 rfl) rfl
theorem q1668 : (Jvm.Cond.methodLink "FunDeskModel" (181 : Nat) ({ cls := "FunDeskModel", name := "after", desc := "(II)V" } : Jvm.MethodName)) ∈ lw_all := lw_g (lw_at lw_m7 122 rfl) rfl
theorem q1672 : (Jvm.Cond.methodLink "FunDeskModel" (185 : Nat) ({ cls := "FunDeskModel", name := "name", desc := "()I" } : Jvm.MethodName)) ∈ lw_all := lw_g (lw_at lw_m7 126 rfl) rfl
theorem q1679 : (Jvm.Cond.methodLink "FunDeskModel" (189 : Nat) ({ cls := "FunDeskModel", name := "want", desc := "(C)V" } : Jvm.MethodName)) ∈ lw_all := lw_g (lw_at lw_m7 133 rfl) rfl
theorem q1687 : (Jvm.Cond.methodLink "FunDeskModel" (193 : Nat) ({ cls := "FunDeskModel", name := "put", desc := "(III)V" } : Jvm.MethodName)) ∈ lw_all := lw_g (lw_at lw_m7 141 rfl) rfl
theorem q1700 : (Jvm.Cond.methodLink "FunDeskModel" (201 : Nat) ({ cls := "FunDeskModel", name := "clauseBegins", desc := "(I)V" } : Jvm.MethodName)) ∈ lw_all := lw_g (lw_at lw_m7 154 rfl) rfl
theorem q1704 : (Jvm.Cond.methodLink "FunDeskModel" (204 : Nat) ({ cls := "FunDeskModel", name := "endsDeep", desc := "()V" } : Jvm.MethodName)) ∈ lw_all := lw_g (lw_at lw_m7 158 rfl) rfl
theorem q1695 : (Jvm.Cond.methodLink "FunDeskModel" (207 : Nat) ({ cls := "FunDeskModel", name := "clauseEnds", desc := "(I)V" } : Jvm.MethodName)) ∈ lw_all := lw_g (lw_at lw_m7 149 rfl) rfl
theorem q1712 : (Jvm.Cond.methodLink "FunDeskModel" (210 : Nat) ({ cls := "FunDeskModel", name := "atomBegins", desc := "(C)Z" } : Jvm.MethodName)) ∈ lw_all := lw_g (lw_at lw_m7 166 rfl) rfl
theorem q1726 : (Jvm.Cond.methodLink "FunDeskModel" (213 : Nat) ({ cls := "FunDeskModel", name := "digits", desc := "(I)I" } : Jvm.MethodName)) ∈ lw_all := lw_g (lw_at lw_m7 180 rfl) rfl
theorem q1742 : (Jvm.Cond.methodLink "FunDeskModel" (217 : Nat) ({ cls := "FunDeskModel", name := "putSign", desc := "(II)V" } : Jvm.MethodName)) ∈ lw_all := lw_g (lw_at lw_m7 196 rfl) rfl
theorem q1734 : (Jvm.Cond.methodLink "FunDeskModel" (220 : Nat) ({ cls := "FunDeskModel", name := "insertSign", desc := "(I)V" } : Jvm.MethodName)) ∈ lw_all := lw_g (lw_at lw_m7 188 rfl) rfl
theorem q1718 : (Jvm.Cond.methodLink "FunDeskModel" (223 : Nat) ({ cls := "FunDeskModel", name := "operator", desc := "(I)I" } : Jvm.MethodName)) ∈ lw_all := lw_g (lw_at lw_m7 172 rfl) rfl
theorem q1652 : (Jvm.Cond.methodLink "FunDeskModel" (226 : Nat) ({ cls := "FunDeskModel", name := "exprBegins", desc := "(I)V" } : Jvm.MethodName)) ∈ lw_all := lw_g (lw_at lw_m7 106 rfl) rfl
theorem q1691 : (Jvm.Cond.methodLink "FunDeskModel" (229 : Nat) ({ cls := "FunDeskModel", name := "exprGoesOn", desc := "(I)V" } : Jvm.MethodName)) ∈ lw_all := lw_g (lw_at lw_m7 145 rfl) rfl
theorem q1708 : (Jvm.Cond.methodLink "FunDeskModel" (232 : Nat) ({ cls := "FunDeskModel", name := "operands", desc := "(I)V" } : Jvm.MethodName)) ∈ lw_all := lw_g (lw_at lw_m7 162 rfl) rfl
theorem q1722 : (Jvm.Cond.methodLink "FunDeskModel" (235 : Nat) ({ cls := "FunDeskModel", name := "atom", desc := "(I)V" } : Jvm.MethodName)) ∈ lw_all := lw_g (lw_at lw_m7 176 rfl) rfl
theorem q1730 : (Jvm.Cond.methodLink "FunDeskModel" (238 : Nat) ({ cls := "FunDeskModel", name := "pattern", desc := "(I)V" } : Jvm.MethodName)) ∈ lw_all := lw_g (lw_at lw_m7 184 rfl) rfl
theorem q1738 : (Jvm.Cond.methodLink "FunDeskModel" (241 : Nat) ({ cls := "FunDeskModel", name := "part", desc := "(I)V" } : Jvm.MethodName)) ∈ lw_all := lw_g (lw_at lw_m7 192 rfl) rfl
theorem q1754 : (Jvm.Cond.methodLink "FunDeskModel" (247 : Nat) ({ cls := "FunDeskModel", name := "bind", desc := "(II)V" } : Jvm.MethodName)) ∈ lw_all := lw_g (lw_at lw_m7 208 rfl) rfl
theorem q1758 : (Jvm.Cond.methodLink "FunDeskModel" (250 : Nat) ({ cls := "FunDeskModel", name := "bindPattern", desc := "(I)V" } : Jvm.MethodName)) ∈ lw_all := lw_g (lw_at lw_m7 212 rfl) rfl
theorem q1750 : (Jvm.Cond.methodLink "FunDeskModel" (253 : Nat) ({ cls := "FunDeskModel", name := "scope", desc := "(I)V" } : Jvm.MethodName)) ∈ lw_all := lw_g (lw_at lw_m7 204 rfl) rfl
theorem q1766 : (Jvm.Cond.methodLink "FunDeskModel" (259 : Nat) ({ cls := "FunDeskModel", name := "make", desc := "(III)I" } : Jvm.MethodName)) ∈ lw_all := lw_g (lw_at lw_m7 220 rfl) rfl
theorem q1790 : (Jvm.Cond.methodLink "FunDeskModel" (266 : Nat) ({ cls := "FunDeskModel", name := "realType", desc := "(I)I" } : Jvm.MethodName)) ∈ lw_all := lw_g (lw_at lw_m8 4 rfl) rfl
theorem q1786 : (Jvm.Cond.methodLink "FunDeskModel" (272 : Nat) ({ cls := "FunDeskModel", name := "width", desc := "(I)I" } : Jvm.MethodName)) ∈ lw_all := lw_g (lw_at lw_m8 0 rfl) rfl
theorem q1810 : (Jvm.Cond.methodLink "FunDeskModel" (278 : Nat) ({ cls := "FunDeskModel", name := "standsIn", desc := "(II)Z" } : Jvm.MethodName)) ∈ lw_all := lw_g (lw_at lw_m8 24 rfl) rfl
theorem q1778 : (Jvm.Cond.methodLink "FunDeskModel" (288 : Nat) ({ cls := "FunDeskModel", name := "fresh", desc := "()I" } : Jvm.MethodName)) ∈ lw_all := lw_g (lw_at lw_m7 232 rfl) rfl
theorem q1794 : (Jvm.Cond.methodLink "FunDeskModel" (294 : Nat) ({ cls := "FunDeskModel", name := "copyOf", desc := "(I)I" } : Jvm.MethodName)) ∈ lw_all := lw_g (lw_at lw_m8 8 rfl) rfl
theorem q1798 : (Jvm.Cond.methodLink "FunDeskModel" (297 : Nat) ({ cls := "FunDeskModel", name := "pop", desc := "()I" } : Jvm.MethodName)) ∈ lw_all := lw_g (lw_at lw_m8 12 rfl) rfl
theorem q1806 : (Jvm.Cond.methodLink "FunDeskModel" (300 : Nat) ({ cls := "FunDeskModel", name := "unify", desc := "(II)V" } : Jvm.MethodName)) ∈ lw_all := lw_g (lw_at lw_m8 20 rfl) rfl
theorem q1774 : (Jvm.Cond.methodLink "FunDeskModel" (303 : Nat) ({ cls := "FunDeskModel", name := "push", desc := "(I)V" } : Jvm.MethodName)) ∈ lw_all := lw_g (lw_at lw_m7 228 rfl) rfl
theorem q1818 : (Jvm.Cond.methodLink "FunDeskModel" (306 : Nat) ({ cls := "FunDeskModel", name := "operand", desc := "(I)I" } : Jvm.MethodName)) ∈ lw_all := lw_g (lw_at lw_m8 32 rfl) rfl
theorem q1782 : (Jvm.Cond.methodLink "FunDeskModel" (309 : Nat) ({ cls := "FunDeskModel", name := "instance", desc := "(I)I" } : Jvm.MethodName)) ∈ lw_all := lw_g (lw_at lw_m7 236 rfl) rfl
theorem q1802 : (Jvm.Cond.methodLink "FunDeskModel" (312 : Nat) ({ cls := "FunDeskModel", name := "applied", desc := "()V" } : Jvm.MethodName)) ∈ lw_all := lw_g (lw_at lw_m8 16 rfl) rfl
theorem q1814 : (Jvm.Cond.methodLink "FunDeskModel" (315 : Nat) ({ cls := "FunDeskModel", name := "operation", desc := "(I)V" } : Jvm.MethodName)) ∈ lw_all := lw_g (lw_at lw_m8 28 rfl) rfl
theorem q1822 : (Jvm.Cond.methodLink "FunDeskModel" (318 : Nat) ({ cls := "FunDeskModel", name := "bindingType", desc := "(II)V" } : Jvm.MethodName)) ∈ lw_all := lw_g (lw_at lw_m8 36 rfl) rfl
theorem q1826 : (Jvm.Cond.methodLink "FunDeskModel" (321 : Nat) ({ cls := "FunDeskModel", name := "generalize", desc := "(I)V" } : Jvm.MethodName)) ∈ lw_all := lw_g (lw_at lw_m8 40 rfl) rfl
theorem q1830 : (Jvm.Cond.methodLink "FunDeskModel" (327 : Nat) ({ cls := "FunDeskModel", name := "patternTypes", desc := "(II)V" } : Jvm.MethodName)) ∈ lw_all := lw_g (lw_at lw_m8 44 rfl) rfl
theorem q1770 : (Jvm.Cond.methodLink "FunDeskModel" (330 : Nat) ({ cls := "FunDeskModel", name := "typeOf", desc := "(I)V" } : Jvm.MethodName)) ∈ lw_all := lw_g (lw_at lw_m7 224 rfl) rfl
theorem q1865 : (Jvm.Cond.methodLink "FunDeskModel" (345 : Nat) ({ cls := "FunDeskModel", name := "fail", desc := "(I)V" } : Jvm.MethodName)) ∈ lw_all := lw_g (lw_at lw_m8 79 rfl) rfl
theorem q1861 : (Jvm.Cond.methodLink "FunDeskModel" (352 : Nat) ({ cls := "FunDeskModel", name := "known", desc := "(II)V" } : Jvm.MethodName)) ∈ lw_all := lw_g (lw_at lw_m8 75 rfl) rfl
theorem q1883 : (Jvm.Cond.methodLink "FunDeskModel" (355 : Nat) ({ cls := "FunDeskModel", name := "kind", desc := "(J)I" } : Jvm.MethodName)) ∈ lw_all := lw_g (lw_at lw_m8 97 rfl) rfl
theorem q1886 : (Jvm.Cond.methodLink "FunDeskModel" (359 : Nat) ({ cls := "FunDeskModel", name := "told", desc := "(J)I" } : Jvm.MethodName)) ∈ lw_all := lw_g (lw_at lw_m8 100 rfl) rfl
theorem q1889 : (Jvm.Cond.methodLink "FunDeskModel" (373 : Nat) ({ cls := "FunDeskModel", name := "knownReal", desc := "(D)V" } : Jvm.MethodName)) ∈ lw_all := lw_g (lw_at lw_m8 103 rfl) rfl
theorem q1893 : (Jvm.Cond.methodLink "FunDeskModel" (377 : Nat) ({ cls := "FunDeskModel", name := "realOf", desc := "(J)D" } : Jvm.MethodName)) ∈ lw_all := lw_g (lw_at lw_m8 107 rfl) rfl
theorem q1898 : (Jvm.Cond.methodLink "FunDeskModel" (387 : Nat) ({ cls := "FunDeskModel", name := "worthIs", desc := "(JI)V" } : Jvm.MethodName)) ∈ lw_all := lw_g (lw_at lw_m8 112 rfl) rfl
theorem q1906 : (Jvm.Cond.methodLink "FunDeskModel" (394 : Nat) ({ cls := "FunDeskModel", name := "workReals", desc := "(IDD)V" } : Jvm.MethodName)) ∈ lw_all := lw_g (lw_at lw_m8 120 rfl) rfl
theorem q1912 : (Jvm.Cond.methodLink "FunDeskModel" (398 : Nat) ({ cls := "FunDeskModel", name := "workNumbers", desc := "(III)V" } : Jvm.MethodName)) ∈ lw_all := lw_g (lw_at lw_m8 126 rfl) rfl
theorem q1870 : (Jvm.Cond.methodLink "FunDeskModel" (405 : Nat) ({ cls := "FunDeskModel", name := "further", desc := "(I)I" } : Jvm.MethodName)) ∈ lw_all := lw_g (lw_at lw_m8 84 rfl) rfl
theorem q1874 : (Jvm.Cond.methodLink "FunDeskModel" (408 : Nat) ({ cls := "FunDeskModel", name := "knownValue", desc := "(J)V" } : Jvm.MethodName)) ∈ lw_all := lw_g (lw_at lw_m8 88 rfl) rfl
theorem q1879 : (Jvm.Cond.methodLink "FunDeskModel" (412 : Nat) ({ cls := "FunDeskModel", name := "apply", desc := "()V" } : Jvm.MethodName)) ∈ lw_all := lw_g (lw_at lw_m8 93 rfl) rfl
theorem q1902 : (Jvm.Cond.methodLink "FunDeskModel" (415 : Nat) ({ cls := "FunDeskModel", name := "work", desc := "(I)V" } : Jvm.MethodName)) ∈ lw_all := lw_g (lw_at lw_m8 116 rfl) rfl
theorem q1916 : (Jvm.Cond.methodLink "FunDeskModel" (418 : Nat) ({ cls := "FunDeskModel", name := "bindTop", desc := "(Z)V" } : Jvm.MethodName)) ∈ lw_all := lw_g (lw_at lw_m8 130 rfl) rfl
theorem q1921 : (Jvm.Cond.methodLink "FunDeskModel" (422 : Nat) ({ cls := "FunDeskModel", name := "flow", desc := "(III)V" } : Jvm.MethodName)) ∈ lw_all := lw_g (lw_at lw_m8 135 rfl) rfl
theorem q1925 : (Jvm.Cond.methodLink "FunDeskModel" (427 : Nat) ({ cls := "FunDeskModel", name := "fits", desc := "(II)Z" } : Jvm.MethodName)) ∈ lw_all := lw_g (lw_at lw_m8 139 rfl) rfl
theorem q1838 : (Jvm.Cond.methodLink "FunDeskModel" (433 : Nat) ({ cls := "FunDeskModel", name := "show", desc := "(I)V" } : Jvm.MethodName)) ∈ lw_all := lw_g (lw_at lw_m8 52 rfl) rfl
theorem q1644 : (Jvm.Cond.methodLink "FunDeskModel" (439 : Nat) ({ cls := "FunDeskModel", name := "reads", desc := "()Z" } : Jvm.MethodName)) ∈ lw_all := lw_g (lw_at lw_m7 98 rfl) rfl
theorem q1746 : (Jvm.Cond.methodLink "FunDeskModel" (443 : Nat) ({ cls := "FunDeskModel", name := "namesFound", desc := "()Z" } : Jvm.MethodName)) ∈ lw_all := lw_g (lw_at lw_m7 200 rfl) rfl
theorem q1762 : (Jvm.Cond.methodLink "FunDeskModel" (446 : Nat) ({ cls := "FunDeskModel", name := "typesFound", desc := "()Z" } : Jvm.MethodName)) ∈ lw_all := lw_g (lw_at lw_m7 216 rfl) rfl
theorem q1834 : (Jvm.Cond.methodLink "FunDeskModel" (449 : Nat) ({ cls := "FunDeskModel", name := "startProgram", desc := "()V" } : Jvm.MethodName)) ∈ lw_all := lw_g (lw_at lw_m8 48 rfl) rfl
theorem q1854 : (Jvm.Cond.methodLink "FunDeskModel" (452 : Nat) ({ cls := "FunDeskModel", name := "isStep", desc := "(I)Z" } : Jvm.MethodName)) ∈ lw_all := lw_g (lw_at lw_m8 68 rfl) rfl
theorem q1850 : (Jvm.Cond.methodLink "FunDeskModel" (456 : Nat) ({ cls := "FunDeskModel", name := "stepIsDue", desc := "()Z" } : Jvm.MethodName)) ∈ lw_all := lw_g (lw_at lw_m8 64 rfl) rfl
theorem q1857 : (Jvm.Cond.methodLink "FunDeskModel" (466 : Nat) ({ cls := "FunDeskModel", name := "execute", desc := "()V" } : Jvm.MethodName)) ∈ lw_all := lw_g (lw_at lw_m8 71 rfl) rfl
theorem q1937 : (Jvm.Cond.methodLink "FunDeskModel" (472 : Nat) ({ cls := "FunDeskModel", name := "items", desc := "(J)I" } : Jvm.MethodName)) ∈ lw_all := lw_g (lw_at lw_m8 151 rfl) rfl
theorem q716 : (Jvm.Cond.methodLink "FunDesk$Plain" (1 : Nat) ({ cls := "java/lang/Record", name := "<init>", desc := "()V" } : Jvm.MethodName)) ∈ lw_all := lw_g (lw_at lw_m3 130 rfl) rfl
theorem q1221 : (Jvm.Cond.methodLink "FunDesk$Plain" (39 : Nat) ({ cls := "FunDesk$Type", name := "<init>", desc := "(LFunDesk$Sort;LFunDesk$Type;LFunDesk$Type;)V" } : Jvm.MethodName)) ∈ lw_all := lw_g (lw_at lw_m5 155 rfl) rfl
theorem q744 : (Jvm.Cond.methodLink "FunDesk$Operation" (3 : Nat) ({ cls := "java/lang/Record", name := "<init>", desc := "()V" } : Jvm.MethodName)) ∈ lw_all := lw_g (lw_at lw_m3 158 rfl) rfl
theorem q1210 : (Jvm.Cond.methodLink "FunDesk$Operation" (40 : Nat) ({ cls := "FunDesk$Type", name := "<init>", desc := "(LFunDesk$Sort;LFunDesk$Type;LFunDesk$Type;)V" } : Jvm.MethodName)) ∈ lw_all := lw_g (lw_at lw_m5 144 rfl) rfl
theorem q767 : (Jvm.Cond.methodLink "FunDesk$Name" (1 : Nat) ({ cls := "java/lang/Record", name := "<init>", desc := "()V" } : Jvm.MethodName)) ∈ lw_all := lw_g (lw_at lw_m3 181 rfl) rfl
theorem q1189 : (Jvm.Cond.methodLink "FunDesk$Name" (19 : Nat) ({ cls := "FunDesk$Scope", name := "type", desc := "()LFunDesk$Type;" } : Jvm.MethodName)) ∈ lw_all := lw_g (lw_at lw_m5 123 rfl) rfl
theorem q777 : (Jvm.Cond.methodLink "FunDesk$Applied" (1 : Nat) ({ cls := "java/lang/Record", name := "<init>", desc := "()V" } : Jvm.MethodName)) ∈ lw_all := lw_g (lw_at lw_m3 191 rfl) rfl
theorem q1073 : (Jvm.Cond.methodLink "FunDesk$Applied" (40 : Nat) ({ cls := "FunDesk$Type", name := "<init>", desc := "(LFunDesk$Sort;LFunDesk$Type;LFunDesk$Type;)V" } : Jvm.MethodName)) ∈ lw_all := lw_g (lw_at lw_m5 7 rfl) rfl
theorem q798 : (Jvm.Cond.methodLink "FunDesk$If" (1 : Nat) ({ cls := "java/lang/Record", name := "<init>", desc := "()V" } : Jvm.MethodName)) ∈ lw_all := lw_g (lw_at lw_m3 212 rfl) rfl
theorem q1312 : (Jvm.Cond.methodLink "FunDesk$Case" (79 : Nat) ({ cls := "FunDesk$Scope", name := "next", desc := "()LFunDesk$Scope;" } : Jvm.MethodName)) ∈ lw_all := lw_g (lw_at lw_m6 6 rfl) rfl
theorem q851 : (Jvm.Cond.methodLink "FunDesk$Same" (1 : Nat) ({ cls := "java/lang/Record", name := "<init>", desc := "()V" } : Jvm.MethodName)) ∈ lw_all := lw_g (lw_at lw_m4 25 rfl) rfl
theorem q1148 : (Jvm.Cond.methodLink "FunDesk$Same" (42 : Nat) ({ cls := "FunDesk$Type", name := "<init>", desc := "(LFunDesk$Sort;LFunDesk$Type;LFunDesk$Type;)V" } : Jvm.MethodName)) ∈ lw_all := lw_g (lw_at lw_m5 82 rfl) rfl
theorem q558 : (Jvm.Cond.methodLink "FunDesk$Same" (49 : Nat) ({ cls := "FunDesk$Whole", name := "number", desc := "()I" } : Jvm.MethodName)) ∈ lw_all := lw_g (lw_at lw_m2 212 rfl) rfl
theorem q864 : (Jvm.Cond.methodLink "FunDesk$Any" (1 : Nat) ({ cls := "java/lang/Record", name := "<init>", desc := "()V" } : Jvm.MethodName)) ∈ lw_all := lw_g (lw_at lw_m4 38 rfl) rfl
theorem q534 : (Jvm.Cond.methodLink "FunDesk$Any" (34 : Nat) ({ cls := "FunDesk$Env", name := "<init>", desc := "(LFunDesk$Value;LFunDesk$Env;)V" } : Jvm.MethodName)) ∈ lw_all := lw_g (lw_at lw_m2 188 rfl) rfl
theorem q878 : (Jvm.Cond.methodLink "FunDesk$Both" (1 : Nat) ({ cls := "java/lang/Record", name := "<init>", desc := "()V" } : Jvm.MethodName)) ∈ lw_all := lw_g (lw_at lw_m4 52 rfl) rfl
theorem q1137 : (Jvm.Cond.methodLink "FunDesk$Both" (36 : Nat) ({ cls := "FunDesk$Type", name := "<init>", desc := "(LFunDesk$Sort;LFunDesk$Type;LFunDesk$Type;)V" } : Jvm.MethodName)) ∈ lw_all := lw_g (lw_at lw_m5 71 rfl) rfl
theorem q542 : (Jvm.Cond.methodLink "FunDesk$Both" (45 : Nat) ({ cls := "FunDesk$Cons", name := "first", desc := "()LFunDesk$Value;" } : Jvm.MethodName)) ∈ lw_all := lw_g (lw_at lw_m2 196 rfl) rfl
theorem q559 : (Jvm.Cond.methodLink "FunDesk$Both" (52 : Nat) ({ cls := "FunDesk$Cons", name := "rest", desc := "()LFunDesk$Value;" } : Jvm.MethodName)) ∈ lw_all := lw_g (lw_at lw_m2 213 rfl) rfl
theorem q895 : (Jvm.Cond.methodLink "FunDesk$Function" (1 : Nat) ({ cls := "java/lang/Record", name := "<init>", desc := "()V" } : Jvm.MethodName)) ∈ lw_all := lw_g (lw_at lw_m4 69 rfl) rfl
theorem q1163 : (Jvm.Cond.methodLink "FunDesk$Function" (46 : Nat) ({ cls := "FunDesk$Type", name := "<init>", desc := "(LFunDesk$Sort;LFunDesk$Type;LFunDesk$Type;)V" } : Jvm.MethodName)) ∈ lw_all := lw_g (lw_at lw_m5 97 rfl) rfl
theorem q908 : (Jvm.Cond.methodLink "FunDesk$Let" (1 : Nat) ({ cls := "java/lang/Record", name := "<init>", desc := "()V" } : Jvm.MethodName)) ∈ lw_all := lw_g (lw_at lw_m4 82 rfl) rfl
theorem q953 : (Jvm.Cond.methodLink "FunDesk$Scope" (1 : Nat) ({ cls := "java/lang/Record", name := "<init>", desc := "()V" } : Jvm.MethodName)) ∈ lw_all := lw_g (lw_at lw_m4 127 rfl) rfl
theorem q395 : (Jvm.Cond.methodLink "FunDesk$Whole" (1 : Nat) ({ cls := "java/lang/Record", name := "<init>", desc := "()V" } : Jvm.MethodName)) ∈ lw_all := lw_g (lw_at lw_m2 49 rfl) rfl
theorem q410 : (Jvm.Cond.methodLink "FunDesk$Broken" (1 : Nat) ({ cls := "java/lang/Record", name := "<init>", desc := "()V" } : Jvm.MethodName)) ∈ lw_all := lw_g (lw_at lw_m2 64 rfl) rfl
theorem q420 : (Jvm.Cond.methodLink "FunDesk$Built" (1 : Nat) ({ cls := "java/lang/Record", name := "<init>", desc := "()V" } : Jvm.MethodName)) ∈ lw_all := lw_g (lw_at lw_m2 74 rfl) rfl
theorem q430 : (Jvm.Cond.methodLink "FunDesk$Closure" (1 : Nat) ({ cls := "java/lang/Record", name := "<init>", desc := "()V" } : Jvm.MethodName)) ∈ lw_all := lw_g (lw_at lw_m2 84 rfl) rfl
theorem q497 : (Jvm.Cond.methodLink "FunDesk$Cons" (1 : Nat) ({ cls := "java/lang/Record", name := "<init>", desc := "()V" } : Jvm.MethodName)) ∈ lw_all := lw_g (lw_at lw_m2 151 rfl) rfl
def am_ml_0 : List (Nat × Nat × Nat) := [(0, 7, 24), (0, 19, 68), (0, 27, 71), (0, 31, 72), (0, 35, 73), (0, 38, 5), (0, 41, 77), (0, 42, 6), (0, 46, 79), (0, 47, 7), (0, 50, 80), (0, 51, 0), (0, 56, 81), (0, 57, 78), (0, 60, 8), (0, 63, 132), (0, 64, 9), (0, 67, 133), (0, 68, 23), (0, 71, 153), (0, 72, 1), (0, 75, 154), (0, 76, 2), (0, 79, 156), (0, 80, 3)]
theorem am_ml_ok0 : ∀ x ∈ am_ml_0, Cond.methodLink (am_on x.1) x.2.1 (am_y x.2.2) ∈ lw_all := List.forall_mem_cons.mpr ⟨q573, List.forall_mem_cons.mpr ⟨q1338, List.forall_mem_cons.mpr ⟨q1383, List.forall_mem_cons.mpr ⟨q1390, List.forall_mem_cons.mpr ⟨q1398, List.forall_mem_cons.mpr ⟨q144, List.forall_mem_cons.mpr ⟨q1404, List.forall_mem_cons.mpr ⟨q345, List.forall_mem_cons.mpr ⟨q1632, List.forall_mem_cons.mpr ⟨q349, List.forall_mem_cons.mpr ⟨q1636, List.forall_mem_cons.mpr ⟨q567, List.forall_mem_cons.mpr ⟨q1640, List.forall_mem_cons.mpr ⟨q1628, List.forall_mem_cons.mpr ⟨q353, List.forall_mem_cons.mpr ⟨q1842, List.forall_mem_cons.mpr ⟨q357, List.forall_mem_cons.mpr ⟨q1846, List.forall_mem_cons.mpr ⟨q563, List.forall_mem_cons.mpr ⟨q1929, List.forall_mem_cons.mpr ⟨q1333, List.forall_mem_cons.mpr ⟨q1933, List.forall_mem_cons.mpr ⟨q1380, List.forall_mem_cons.mpr ⟨q1941, List.forall_mem_cons.mpr ⟨q1387, List.forall_mem_nil _⟩⟩⟩⟩⟩⟩⟩⟩⟩⟩⟩⟩⟩⟩⟩⟩⟩⟩⟩⟩⟩⟩⟩⟩⟩
def am_ml_1 : List (Nat × Nat × Nat) := [(0, 83, 157), (0, 84, 4), (0, 87, 158), (1, 15, 74), (1, 96, 75), (1, 111, 56), (1, 127, 57), (1, 131, 55), (1, 135, 54), (1, 139, 60), (1, 143, 62), (1, 151, 53), (1, 157, 61), (1, 167, 66), (1, 175, 67), (1, 178, 65), (1, 182, 204), (1, 188, 205), (1, 201, 59), (1, 220, 29), (1, 223, 28), (1, 226, 39), (1, 230, 27), (1, 237, 30), (1, 241, 31)]
theorem am_ml_ok1 : ∀ x ∈ am_ml_1, Cond.methodLink (am_on x.1) x.2.1 (am_y x.2.2) ∈ lw_all := List.forall_mem_cons.mpr ⟨q1945, List.forall_mem_cons.mpr ⟨q1395, List.forall_mem_cons.mpr ⟨q1949, List.forall_mem_cons.mpr ⟨q154, List.forall_mem_cons.mpr ⟨q1077, List.forall_mem_cons.mpr ⟨q1085, List.forall_mem_cons.mpr ⟨q1103, List.forall_mem_cons.mpr ⟨q1082, List.forall_mem_cons.mpr ⟨q1102, List.forall_mem_cons.mpr ⟨q1183, List.forall_mem_cons.mpr ⟨q1197, List.forall_mem_cons.mpr ⟨q1200, List.forall_mem_cons.mpr ⟨q1201, List.forall_mem_cons.mpr ⟨q1325, List.forall_mem_cons.mpr ⟨q1329, List.forall_mem_cons.mpr ⟨q1319, List.forall_mem_cons.mpr ⟨q993, List.forall_mem_cons.mpr ⟨q997, List.forall_mem_cons.mpr ⟨q1149, List.forall_mem_cons.mpr ⟨q659, List.forall_mem_cons.mpr ⟨q655, List.forall_mem_cons.mpr ⟨q698, List.forall_mem_cons.mpr ⟨q588, List.forall_mem_cons.mpr ⟨q663, List.forall_mem_cons.mpr ⟨q667, List.forall_mem_nil _⟩⟩⟩⟩⟩⟩⟩⟩⟩⟩⟩⟩⟩⟩⟩⟩⟩⟩⟩⟩⟩⟩⟩⟩⟩
def am_ml_2 : List (Nat × Nat × Nat) := [(1, 245, 26), (1, 248, 43), (1, 256, 46), (1, 259, 50), (1, 272, 179), (1, 284, 47), (1, 292, 32), (1, 297, 45), (1, 303, 33), (1, 306, 44), (1, 310, 34), (1, 313, 35), (1, 316, 38), (1, 319, 36), (1, 322, 37), (1, 330, 40), (1, 345, 42), (1, 355, 41), (1, 363, 48), (1, 368, 49), (1, 388, 11), (1, 394, 208), (1, 398, 210), (1, 431, 13), (1, 460, 14)]
theorem am_ml_ok2 : ∀ x ∈ am_ml_2, Cond.methodLink (am_on x.1) x.2.1 (am_y x.2.2) ∈ lw_all := List.forall_mem_cons.mpr ⟨q584, List.forall_mem_cons.mpr ⟨q758, List.forall_mem_cons.mpr ⟨q809, List.forall_mem_cons.mpr ⟨q886, List.forall_mem_cons.mpr ⟨q815, List.forall_mem_cons.mpr ⟨q838, List.forall_mem_cons.mpr ⟨q671, List.forall_mem_cons.mpr ⟨q789, List.forall_mem_cons.mpr ⟨q675, List.forall_mem_cons.mpr ⟨q785, List.forall_mem_cons.mpr ⟨q679, List.forall_mem_cons.mpr ⟨q683, List.forall_mem_cons.mpr ⟨q695, List.forall_mem_cons.mpr ⟨q687, List.forall_mem_cons.mpr ⟨q691, List.forall_mem_cons.mpr ⟨q701, List.forall_mem_cons.mpr ⟨q737, List.forall_mem_cons.mpr ⟨q705, List.forall_mem_cons.mpr ⟨q842, List.forall_mem_cons.mpr ⟨q871, List.forall_mem_cons.mpr ⟨q376, List.forall_mem_cons.mpr ⟨q454, List.forall_mem_cons.mpr ⟨q462, List.forall_mem_cons.mpr ⟨q400, List.forall_mem_cons.mpr ⟨q438, List.forall_mem_nil _⟩⟩⟩⟩⟩⟩⟩⟩⟩⟩⟩⟩⟩⟩⟩⟩⟩⟩⟩⟩⟩⟩⟩⟩⟩
def am_ml_3 : List (Nat × Nat × Nat) := [(1, 464, 15), (1, 468, 18), (1, 471, 216), (1, 474, 21), (1, 477, 16), (1, 481, 22), (1, 484, 212), (1, 486, 17), (1, 490, 214), (1, 493, 215), (1, 503, 19), (1, 507, 20), (1, 527, 52), (1, 534, 25), (1, 552, 10), (1, 562, 12), (1, 568, 219), (1, 571, 69), (1, 577, 70), (1, 580, 218), (3, 1, 220), (4, 141, 87), (4, 145, 86), (4, 148, 92), (4, 156, 100)]
theorem am_ml_ok3 : ∀ x ∈ am_ml_3, Cond.methodLink (am_on x.1) x.2.1 (am_y x.2.2) ∈ lw_all := List.forall_mem_cons.mpr ⟨q442, List.forall_mem_cons.mpr ⟨q488, List.forall_mem_cons.mpr ⟨q471, List.forall_mem_cons.mpr ⟨q515, List.forall_mem_cons.mpr ⟨q450, List.forall_mem_cons.mpr ⟨q519, List.forall_mem_cons.mpr ⟨q446, List.forall_mem_cons.mpr ⟨q458, List.forall_mem_cons.mpr ⟨q467, List.forall_mem_cons.mpr ⟨q484, List.forall_mem_cons.mpr ⟨q505, List.forall_mem_cons.mpr ⟨q511, List.forall_mem_cons.mpr ⟨q1052, List.forall_mem_cons.mpr ⟨q577, List.forall_mem_cons.mpr ⟨q361, List.forall_mem_cons.mpr ⟨q380, List.forall_mem_cons.mpr ⟨q1379, List.forall_mem_cons.mpr ⟨q1342, List.forall_mem_cons.mpr ⟨q1376, List.forall_mem_cons.mpr ⟨q1394, List.forall_mem_cons.mpr ⟨q194, List.forall_mem_cons.mpr ⟨q1664, List.forall_mem_cons.mpr ⟨q1660, List.forall_mem_cons.mpr ⟨q1683, List.forall_mem_cons.mpr ⟨q1715, List.forall_mem_nil _⟩⟩⟩⟩⟩⟩⟩⟩⟩⟩⟩⟩⟩⟩⟩⟩⟩⟩⟩⟩⟩⟩⟩⟩⟩
def am_ml_4 : List (Nat × Nat × Nat) := [(4, 159, 90), (4, 171, 83), (4, 178, 85), (4, 181, 88), (4, 185, 89), (4, 189, 91), (4, 193, 93), (4, 201, 96), (4, 204, 97), (4, 207, 95), (4, 210, 99), (4, 213, 103), (4, 217, 107), (4, 220, 105), (4, 223, 101), (4, 226, 84), (4, 229, 94), (4, 232, 98), (4, 235, 102), (4, 238, 104), (4, 241, 106), (4, 247, 110), (4, 250, 111), (4, 253, 109), (4, 259, 113)]
theorem am_ml_ok4 : ∀ x ∈ am_ml_4, Cond.methodLink (am_on x.1) x.2.1 (am_y x.2.2) ∈ lw_all := List.forall_mem_cons.mpr ⟨q1676, List.forall_mem_cons.mpr ⟨q1648, List.forall_mem_cons.mpr ⟨q1656, List.forall_mem_cons.mpr ⟨q1668, List.forall_mem_cons.mpr ⟨q1672, List.forall_mem_cons.mpr ⟨q1679, List.forall_mem_cons.mpr ⟨q1687, List.forall_mem_cons.mpr ⟨q1700, List.forall_mem_cons.mpr ⟨q1704, List.forall_mem_cons.mpr ⟨q1695, List.forall_mem_cons.mpr ⟨q1712, List.forall_mem_cons.mpr ⟨q1726, List.forall_mem_cons.mpr ⟨q1742, List.forall_mem_cons.mpr ⟨q1734, List.forall_mem_cons.mpr ⟨q1718, List.forall_mem_cons.mpr ⟨q1652, List.forall_mem_cons.mpr ⟨q1691, List.forall_mem_cons.mpr ⟨q1708, List.forall_mem_cons.mpr ⟨q1722, List.forall_mem_cons.mpr ⟨q1730, List.forall_mem_cons.mpr ⟨q1738, List.forall_mem_cons.mpr ⟨q1754, List.forall_mem_cons.mpr ⟨q1758, List.forall_mem_cons.mpr ⟨q1750, List.forall_mem_cons.mpr ⟨q1766, List.forall_mem_nil _⟩⟩⟩⟩⟩⟩⟩⟩⟩⟩⟩⟩⟩⟩⟩⟩⟩⟩⟩⟩⟩⟩⟩⟩⟩
def am_ml_5 : List (Nat × Nat × Nat) := [(4, 266, 119), (4, 272, 118), (4, 278, 124), (4, 288, 116), (4, 294, 120), (4, 297, 121), (4, 300, 123), (4, 303, 115), (4, 306, 126), (4, 309, 117), (4, 312, 122), (4, 315, 125), (4, 318, 127), (4, 321, 128), (4, 327, 129), (4, 330, 114), (4, 345, 138), (4, 352, 137), (4, 355, 142), (4, 359, 143), (4, 373, 144), (4, 377, 145), (4, 387, 146), (4, 394, 148), (4, 398, 149)]
theorem am_ml_ok5 : ∀ x ∈ am_ml_5, Cond.methodLink (am_on x.1) x.2.1 (am_y x.2.2) ∈ lw_all := List.forall_mem_cons.mpr ⟨q1790, List.forall_mem_cons.mpr ⟨q1786, List.forall_mem_cons.mpr ⟨q1810, List.forall_mem_cons.mpr ⟨q1778, List.forall_mem_cons.mpr ⟨q1794, List.forall_mem_cons.mpr ⟨q1798, List.forall_mem_cons.mpr ⟨q1806, List.forall_mem_cons.mpr ⟨q1774, List.forall_mem_cons.mpr ⟨q1818, List.forall_mem_cons.mpr ⟨q1782, List.forall_mem_cons.mpr ⟨q1802, List.forall_mem_cons.mpr ⟨q1814, List.forall_mem_cons.mpr ⟨q1822, List.forall_mem_cons.mpr ⟨q1826, List.forall_mem_cons.mpr ⟨q1830, List.forall_mem_cons.mpr ⟨q1770, List.forall_mem_cons.mpr ⟨q1865, List.forall_mem_cons.mpr ⟨q1861, List.forall_mem_cons.mpr ⟨q1883, List.forall_mem_cons.mpr ⟨q1886, List.forall_mem_cons.mpr ⟨q1889, List.forall_mem_cons.mpr ⟨q1893, List.forall_mem_cons.mpr ⟨q1898, List.forall_mem_cons.mpr ⟨q1906, List.forall_mem_cons.mpr ⟨q1912, List.forall_mem_nil _⟩⟩⟩⟩⟩⟩⟩⟩⟩⟩⟩⟩⟩⟩⟩⟩⟩⟩⟩⟩⟩⟩⟩⟩⟩
def am_ml_6 : List (Nat × Nat × Nat) := [(4, 405, 139), (4, 408, 140), (4, 412, 141), (4, 415, 147), (4, 418, 150), (4, 422, 151), (4, 427, 152), (4, 433, 131), (4, 439, 82), (4, 443, 108), (4, 446, 112), (4, 449, 130), (4, 452, 135), (4, 456, 134), (4, 466, 136), (4, 472, 155), (5, 1, 220), (5, 39, 74), (6, 3, 220), (6, 40, 74), (7, 1, 220), (7, 19, 206), (8, 1, 220), (8, 40, 74), (9, 1, 220)]
theorem am_ml_ok6 : ∀ x ∈ am_ml_6, Cond.methodLink (am_on x.1) x.2.1 (am_y x.2.2) ∈ lw_all := List.forall_mem_cons.mpr ⟨q1870, List.forall_mem_cons.mpr ⟨q1874, List.forall_mem_cons.mpr ⟨q1879, List.forall_mem_cons.mpr ⟨q1902, List.forall_mem_cons.mpr ⟨q1916, List.forall_mem_cons.mpr ⟨q1921, List.forall_mem_cons.mpr ⟨q1925, List.forall_mem_cons.mpr ⟨q1838, List.forall_mem_cons.mpr ⟨q1644, List.forall_mem_cons.mpr ⟨q1746, List.forall_mem_cons.mpr ⟨q1762, List.forall_mem_cons.mpr ⟨q1834, List.forall_mem_cons.mpr ⟨q1854, List.forall_mem_cons.mpr ⟨q1850, List.forall_mem_cons.mpr ⟨q1857, List.forall_mem_cons.mpr ⟨q1937, List.forall_mem_cons.mpr ⟨q716, List.forall_mem_cons.mpr ⟨q1221, List.forall_mem_cons.mpr ⟨q744, List.forall_mem_cons.mpr ⟨q1210, List.forall_mem_cons.mpr ⟨q767, List.forall_mem_cons.mpr ⟨q1189, List.forall_mem_cons.mpr ⟨q777, List.forall_mem_cons.mpr ⟨q1073, List.forall_mem_cons.mpr ⟨q798, List.forall_mem_nil _⟩⟩⟩⟩⟩⟩⟩⟩⟩⟩⟩⟩⟩⟩⟩⟩⟩⟩⟩⟩⟩⟩⟩⟩⟩
def am_ml_7 : List (Nat × Nat × Nat) := [(10, 79, 205), (11, 1, 220), (11, 42, 74), (11, 49, 208), (12, 1, 220), (12, 34, 216), (13, 1, 220), (13, 36, 74), (13, 45, 218), (13, 52, 219), (14, 1, 220), (14, 46, 74), (15, 1, 220), (16, 1, 220), (17, 1, 220), (18, 1, 220), (19, 1, 220), (20, 1, 220), (22, 1, 220)]
theorem am_ml_ok7 : ∀ x ∈ am_ml_7, Cond.methodLink (am_on x.1) x.2.1 (am_y x.2.2) ∈ lw_all := List.forall_mem_cons.mpr ⟨q1312, List.forall_mem_cons.mpr ⟨q851, List.forall_mem_cons.mpr ⟨q1148, List.forall_mem_cons.mpr ⟨q558, List.forall_mem_cons.mpr ⟨q864, List.forall_mem_cons.mpr ⟨q534, List.forall_mem_cons.mpr ⟨q878, List.forall_mem_cons.mpr ⟨q1137, List.forall_mem_cons.mpr ⟨q542, List.forall_mem_cons.mpr ⟨q559, List.forall_mem_cons.mpr ⟨q895, List.forall_mem_cons.mpr ⟨q1163, List.forall_mem_cons.mpr ⟨q908, List.forall_mem_cons.mpr ⟨q953, List.forall_mem_cons.mpr ⟨q395, List.forall_mem_cons.mpr ⟨q410, List.forall_mem_cons.mpr ⟨q420, List.forall_mem_cons.mpr ⟨q430, List.forall_mem_cons.mpr ⟨q497, List.forall_mem_nil _⟩⟩⟩⟩⟩⟩⟩⟩⟩⟩⟩⟩⟩⟩⟩⟩⟩⟩⟩
def am_ml : List (Nat × Nat × Nat) := am_ml_0 ++ am_ml_1 ++ am_ml_2 ++ am_ml_3 ++ am_ml_4 ++ am_ml_5 ++ am_ml_6 ++ am_ml_7
theorem am_ml_ok : ∀ x ∈ am_ml, Cond.methodLink (am_on x.1) x.2.1 (am_y x.2.2) ∈ lw_all := List.forall_mem_append.mpr ⟨List.forall_mem_append.mpr ⟨List.forall_mem_append.mpr ⟨List.forall_mem_append.mpr ⟨List.forall_mem_append.mpr ⟨List.forall_mem_append.mpr ⟨List.forall_mem_append.mpr ⟨am_ml_ok0, am_ml_ok1⟩, am_ml_ok2⟩, am_ml_ok3⟩, am_ml_ok4⟩, am_ml_ok5⟩, am_ml_ok6⟩, am_ml_ok7⟩
theorem q191 : (Jvm.Cond.methodLinkNest "FunDesk" (68 : Nat) ({ cls := "FunDesk$Nil", name := "<init>", desc := "()V" } : Jvm.MethodName) "FunDesk") ∈ lw_tbl := lw_at lw_m1 85 rfl
theorem q795 : (Jvm.Cond.methodLinkNest "FunDesk" (253 : Nat) ({ cls := "FunDesk$If", name := "<init>", desc := "(LFunDesk$Expr;LFunDesk$Expr;LFunDesk$Expr;)V" } : Jvm.MethodName) "FunDesk") ∈ lw_tbl := lw_at lw_m3 209 rfl
theorem q892 : (Jvm.Cond.methodLinkNest "FunDesk" (262 : Nat) ({ cls := "FunDesk$Function", name := "<init>", desc := "(CLFunDesk$Expr;)V" } : Jvm.MethodName) "FunDesk") ∈ lw_tbl := lw_at lw_m4 66 rfl
theorem q905 : (Jvm.Cond.methodLinkNest "FunDesk" (267 : Nat) ({ cls := "FunDesk$Let", name := "<init>", desc := "(CLFunDesk$Expr;LFunDesk$Expr;Z)V" } : Jvm.MethodName) "FunDesk") ∈ lw_tbl := lw_at lw_m4 79 rfl
theorem q741 : (Jvm.Cond.methodLinkNest "FunDesk" (300 : Nat) ({ cls := "FunDesk$Operation", name := "<init>", desc := "(ILFunDesk$Expr;LFunDesk$Expr;)V" } : Jvm.MethodName) "FunDesk") ∈ lw_tbl := lw_at lw_m3 155 rfl
theorem q774 : (Jvm.Cond.methodLinkNest "FunDesk" (327 : Nat) ({ cls := "FunDesk$Applied", name := "<init>", desc := "(LFunDesk$Expr;LFunDesk$Expr;)V" } : Jvm.MethodName) "FunDesk") ∈ lw_tbl := lw_at lw_m3 188 rfl
theorem q713 : (Jvm.Cond.methodLinkNest "FunDesk" (339 : Nat) ({ cls := "FunDesk$Plain", name := "<init>", desc := "(LFunDesk$Op;ILFunDesk$Sort;)V" } : Jvm.MethodName) "FunDesk") ∈ lw_tbl := lw_at lw_m3 127 rfl
theorem q764 : (Jvm.Cond.methodLinkNest "FunDesk" (353 : Nat) ({ cls := "FunDesk$Name", name := "<init>", desc := "(C)V" } : Jvm.MethodName) "FunDesk") ∈ lw_tbl := lw_at lw_m3 178 rfl
theorem q875 : (Jvm.Cond.methodLinkNest "FunDesk" (371 : Nat) ({ cls := "FunDesk$Both", name := "<init>", desc := "(LFunDesk$Pattern;LFunDesk$Pattern;)V" } : Jvm.MethodName) "FunDesk") ∈ lw_tbl := lw_at lw_m4 49 rfl
theorem q848 : (Jvm.Cond.methodLinkNest "FunDesk" (376 : Nat) ({ cls := "FunDesk$Same", name := "<init>", desc := "(LFunDesk$Sort;I)V" } : Jvm.MethodName) "FunDesk") ∈ lw_tbl := lw_at lw_m4 22 rfl
theorem q861 : (Jvm.Cond.methodLinkNest "FunDesk" (381 : Nat) ({ cls := "FunDesk$Any", name := "<init>", desc := "(C)V" } : Jvm.MethodName) "FunDesk") ∈ lw_tbl := lw_at lw_m4 35 rfl
theorem q392 : (Jvm.Cond.methodLinkNest "FunDesk" (429 : Nat) ({ cls := "FunDesk$Whole", name := "<init>", desc := "(I)V" } : Jvm.MethodName) "FunDesk") ∈ lw_tbl := lw_at lw_m2 46 rfl
theorem q407 : (Jvm.Cond.methodLinkNest "FunDesk" (437 : Nat) ({ cls := "FunDesk$Broken", name := "<init>", desc := "(D)V" } : Jvm.MethodName) "FunDesk") ∈ lw_tbl := lw_at lw_m2 61 rfl
theorem q417 : (Jvm.Cond.methodLinkNest "FunDesk" (442 : Nat) ({ cls := "FunDesk$Built", name := "<init>", desc := "(I)V" } : Jvm.MethodName) "FunDesk") ∈ lw_tbl := lw_at lw_m2 71 rfl
theorem q427 : (Jvm.Cond.methodLinkNest "FunDesk" (454 : Nat) ({ cls := "FunDesk$Closure", name := "<init>", desc := "(ILFunDesk$Env;)V" } : Jvm.MethodName) "FunDesk") ∈ lw_tbl := lw_at lw_m2 81 rfl
theorem q494 : (Jvm.Cond.methodLinkNest "FunDesk" (501 : Nat) ({ cls := "FunDesk$Cons", name := "<init>", desc := "(LFunDesk$Value;LFunDesk$Value;)V" } : Jvm.MethodName) "FunDesk") ∈ lw_tbl := lw_at lw_m2 148 rfl
theorem q1220 : (Jvm.Cond.methodLinkNest "FunDesk$Plain" (33 : Nat) ({ cls := "FunDesk", name := "fresh", desc := "()LFunDesk$Type;" } : Jvm.MethodName) "FunDesk") ∈ lw_tbl := lw_at lw_m5 154 rfl
theorem q1294 : (Jvm.Cond.methodLinkNest "FunDesk$Plain" (64 : Nat) ({ cls := "FunDesk", name := "emit", desc := "(LFunDesk$Op;I)I" } : Jvm.MethodName) "FunDesk") ∈ lw_tbl := lw_at lw_m5 228 rfl
theorem q1207 : (Jvm.Cond.methodLinkNest "FunDesk$Operation" (28 : Nat) ({ cls := "FunDesk", name := "exprType", desc := "(LFunDesk$Expr;LFunDesk;LFunDesk$Scope;)LFunDesk$Type;" } : Jvm.MethodName) "FunDesk") ∈ lw_tbl := lw_at lw_m5 141 rfl
theorem q1211 : (Jvm.Cond.methodLinkNest "FunDesk$Operation" (43 : Nat) ({ cls := "FunDesk", name := "unify", desc := "(LFunDesk$Type;LFunDesk$Type;)V" } : Jvm.MethodName) "FunDesk") ∈ lw_tbl := lw_at lw_m5 145 rfl
theorem q1296 : (Jvm.Cond.methodLinkNest "FunDesk$Operation" (67 : Nat) ({ cls := "FunDesk", name := "emit", desc := "(LFunDesk$Op;I)I" } : Jvm.MethodName) "FunDesk") ∈ lw_tbl := lw_at lw_m5 230 rfl
theorem q990 : (Jvm.Cond.methodLinkNest "FunDesk$Name" (13 : Nat) ({ cls := "FunDesk", name := "find", desc := "(CLFunDesk$Scope;)LFunDesk$Scope;" } : Jvm.MethodName) "FunDesk") ∈ lw_tbl := lw_at lw_m4 164 rfl
theorem q1193 : (Jvm.Cond.methodLinkNest "FunDesk$Name" (25 : Nat) ({ cls := "FunDesk", name := "fitting", desc := "(LFunDesk$Type;)V" } : Jvm.MethodName) "FunDesk") ∈ lw_tbl := lw_at lw_m5 127 rfl
theorem q1194 : (Jvm.Cond.methodLinkNest "FunDesk$Name" (33 : Nat) ({ cls := "FunDesk", name := "instance", desc := "(LFunDesk;LFunDesk$Type;)LFunDesk$Type;" } : Jvm.MethodName) "FunDesk") ∈ lw_tbl := lw_at lw_m5 128 rfl
theorem q1278 : (Jvm.Cond.methodLinkNest "FunDesk$Name" (43 : Nat) ({ cls := "FunDesk", name := "distance", desc := "(CLFunDesk$Scope;)I" } : Jvm.MethodName) "FunDesk") ∈ lw_tbl := lw_at lw_m5 212 rfl
theorem q1281 : (Jvm.Cond.methodLinkNest "FunDesk$Name" (47 : Nat) ({ cls := "FunDesk", name := "emit", desc := "(LFunDesk$Op;I)I" } : Jvm.MethodName) "FunDesk") ∈ lw_tbl := lw_at lw_m5 215 rfl
theorem q1064 : (Jvm.Cond.methodLinkNest "FunDesk$Applied" (22 : Nat) ({ cls := "FunDesk", name := "exprType", desc := "(LFunDesk$Expr;LFunDesk;LFunDesk$Scope;)LFunDesk$Type;" } : Jvm.MethodName) "FunDesk") ∈ lw_tbl := lw_at lw_m4 238 rfl
theorem q1065 : (Jvm.Cond.methodLinkNest "FunDesk$Applied" (28 : Nat) ({ cls := "FunDesk", name := "fresh", desc := "()LFunDesk$Type;" } : Jvm.MethodName) "FunDesk") ∈ lw_tbl := lw_at lw_m4 239 rfl
theorem q1074 : (Jvm.Cond.methodLinkNest "FunDesk$Applied" (43 : Nat) ({ cls := "FunDesk", name := "unify", desc := "(LFunDesk$Type;LFunDesk$Type;)V" } : Jvm.MethodName) "FunDesk") ∈ lw_tbl := lw_at lw_m5 8 rfl
theorem q1318 : (Jvm.Cond.methodLinkNest "FunDesk$Applied" (57 : Nat) ({ cls := "FunDesk", name := "emit", desc := "(LFunDesk$Op;I)I" } : Jvm.MethodName) "FunDesk") ∈ lw_tbl := lw_at lw_m6 12 rfl
theorem q1169 : (Jvm.Cond.methodLinkNest "FunDesk$If" (25 : Nat) ({ cls := "FunDesk", name := "exprType", desc := "(LFunDesk$Expr;LFunDesk;LFunDesk$Scope;)LFunDesk$Type;" } : Jvm.MethodName) "FunDesk") ∈ lw_tbl := lw_at lw_m5 103 rfl
theorem q1170 : (Jvm.Cond.methodLinkNest "FunDesk$If" (35 : Nat) ({ cls := "FunDesk", name := "unify", desc := "(LFunDesk$Type;LFunDesk$Type;)V" } : Jvm.MethodName) "FunDesk") ∈ lw_tbl := lw_at lw_m5 104 rfl
theorem q1303 : (Jvm.Cond.methodLinkNest "FunDesk$If" (49 : Nat) ({ cls := "FunDesk", name := "emit", desc := "(LFunDesk$Op;I)I" } : Jvm.MethodName) "FunDesk") ∈ lw_tbl := lw_at lw_m5 237 rfl
theorem q1114 : (Jvm.Cond.methodLinkNest "FunDesk$Case" (39 : Nat) ({ cls := "FunDesk", name := "exprType", desc := "(LFunDesk$Expr;LFunDesk;LFunDesk$Scope;)LFunDesk$Type;" } : Jvm.MethodName) "FunDesk") ∈ lw_tbl := lw_at lw_m5 48 rfl
theorem q1115 : (Jvm.Cond.methodLinkNest "FunDesk$Case" (43 : Nat) ({ cls := "FunDesk", name := "fresh", desc := "()LFunDesk$Type;" } : Jvm.MethodName) "FunDesk") ∈ lw_tbl := lw_at lw_m5 49 rfl
theorem q1116 : (Jvm.Cond.methodLinkNest "FunDesk$Case" (51 : Nat) ({ cls := "FunDesk", name := "patternType", desc := "(LFunDesk$Pattern;LFunDesk;)LFunDesk$Type;" } : Jvm.MethodName) "FunDesk") ∈ lw_tbl := lw_at lw_m5 50 rfl
theorem q1153 : (Jvm.Cond.methodLinkNest "FunDesk$Case" (55 : Nat) ({ cls := "FunDesk", name := "unify", desc := "(LFunDesk$Type;LFunDesk$Type;)V" } : Jvm.MethodName) "FunDesk") ∈ lw_tbl := lw_at lw_m5 87 rfl
theorem q1309 : (Jvm.Cond.methodLinkNest "FunDesk$Case" (69 : Nat) ({ cls := "FunDesk", name := "emit", desc := "(LFunDesk$Op;I)I" } : Jvm.MethodName) "FunDesk") ∈ lw_tbl := lw_at lw_m6 3 rfl
theorem q1147 : (Jvm.Cond.methodLinkNest "FunDesk$Same" (38 : Nat) ({ cls := "FunDesk", name := "fresh", desc := "()LFunDesk$Type;" } : Jvm.MethodName) "FunDesk") ∈ lw_tbl := lw_at lw_m5 81 rfl
theorem q1039 : (Jvm.Cond.methodLinkNest "FunDesk$Any" (15 : Nat) ({ cls := "FunDesk$Scope", name := "<init>", desc := "(CLFunDesk$Type;LFunDesk$Scope;)V" } : Jvm.MethodName) "FunDesk") ∈ lw_tbl := lw_at lw_m4 213 rfl
theorem q1128 : (Jvm.Cond.methodLinkNest "FunDesk$Any" (18 : Nat) ({ cls := "FunDesk", name := "fresh", desc := "()LFunDesk$Type;" } : Jvm.MethodName) "FunDesk") ∈ lw_tbl := lw_at lw_m5 62 rfl
theorem q1136 : (Jvm.Cond.methodLinkNest "FunDesk$Both" (30 : Nat) ({ cls := "FunDesk", name := "patternType", desc := "(LFunDesk$Pattern;LFunDesk;)LFunDesk$Type;" } : Jvm.MethodName) "FunDesk") ∈ lw_tbl := lw_at lw_m5 70 rfl
theorem q1138 : (Jvm.Cond.methodLinkNest "FunDesk$Both" (39 : Nat) ({ cls := "FunDesk", name := "unify", desc := "(LFunDesk$Type;LFunDesk$Type;)V" } : Jvm.MethodName) "FunDesk") ∈ lw_tbl := lw_at lw_m5 72 rfl
theorem q950 : (Jvm.Cond.methodLinkNest "FunDesk$Function" (19 : Nat) ({ cls := "FunDesk$Scope", name := "<init>", desc := "(CLFunDesk$Type;LFunDesk$Scope;)V" } : Jvm.MethodName) "FunDesk") ∈ lw_tbl := lw_at lw_m4 124 rfl
theorem q1159 : (Jvm.Cond.methodLinkNest "FunDesk$Function" (28 : Nat) ({ cls := "FunDesk", name := "fresh", desc := "()LFunDesk$Type;" } : Jvm.MethodName) "FunDesk") ∈ lw_tbl := lw_at lw_m5 93 rfl
theorem q1162 : (Jvm.Cond.methodLinkNest "FunDesk$Function" (42 : Nat) ({ cls := "FunDesk", name := "exprType", desc := "(LFunDesk$Expr;LFunDesk;LFunDesk$Scope;)LFunDesk$Type;" } : Jvm.MethodName) "FunDesk") ∈ lw_tbl := lw_at lw_m5 96 rfl
theorem q1251 : (Jvm.Cond.methodLinkNest "FunDesk$Function" (55 : Nat) ({ cls := "FunDesk", name := "emit", desc := "(LFunDesk$Op;I)I" } : Jvm.MethodName) "FunDesk") ∈ lw_tbl := lw_at lw_m5 185 rfl
theorem q981 : (Jvm.Cond.methodLinkNest "FunDesk$Let" (26 : Nat) ({ cls := "FunDesk$Scope", name := "<init>", desc := "(CLFunDesk$Type;LFunDesk$Scope;)V" } : Jvm.MethodName) "FunDesk") ∈ lw_tbl := lw_at lw_m4 155 rfl
theorem q1176 : (Jvm.Cond.methodLinkNest "FunDesk$Let" (41 : Nat) ({ cls := "FunDesk", name := "fresh", desc := "()LFunDesk$Type;" } : Jvm.MethodName) "FunDesk") ∈ lw_tbl := lw_at lw_m5 110 rfl
theorem q1177 : (Jvm.Cond.methodLinkNest "FunDesk$Let" (45 : Nat) ({ cls := "FunDesk", name := "exprType", desc := "(LFunDesk$Expr;LFunDesk;LFunDesk$Scope;)LFunDesk$Type;" } : Jvm.MethodName) "FunDesk") ∈ lw_tbl := lw_at lw_m5 111 rfl
theorem q1178 : (Jvm.Cond.methodLinkNest "FunDesk$Let" (49 : Nat) ({ cls := "FunDesk", name := "unify", desc := "(LFunDesk$Type;LFunDesk$Type;)V" } : Jvm.MethodName) "FunDesk") ∈ lw_tbl := lw_at lw_m5 112 rfl
theorem q1179 : (Jvm.Cond.methodLinkNest "FunDesk$Let" (53 : Nat) ({ cls := "FunDesk", name := "fitting", desc := "(LFunDesk$Type;)V" } : Jvm.MethodName) "FunDesk") ∈ lw_tbl := lw_at lw_m5 113 rfl
theorem q1180 : (Jvm.Cond.methodLinkNest "FunDesk$Let" (57 : Nat) ({ cls := "FunDesk", name := "generalize", desc := "(LFunDesk$Type;I)V" } : Jvm.MethodName) "FunDesk") ∈ lw_tbl := lw_at lw_m5 114 rfl
theorem q1299 : (Jvm.Cond.methodLinkNest "FunDesk$Let" (74 : Nat) ({ cls := "FunDesk", name := "emit", desc := "(LFunDesk$Op;I)I" } : Jvm.MethodName) "FunDesk") ∈ lw_tbl := lw_at lw_m5 233 rfl
def am_mn_0 : List (Nat × Nat × Nat) := [(1, 68, 76), (1, 253, 175), (1, 262, 195), (1, 267, 199), (1, 300, 163), (1, 327, 171), (1, 339, 159), (1, 353, 167), (1, 371, 192), (1, 376, 184), (1, 381, 188), (1, 429, 207), (1, 437, 209), (1, 442, 211), (1, 454, 213), (1, 501, 217), (5, 33, 53), (5, 64, 63), (6, 28, 52), (6, 43, 54), (6, 67, 63), (7, 13, 51), (7, 25, 55), (7, 33, 61), (7, 43, 64)]
theorem am_mn_ok0 : ∀ x ∈ am_mn_0, Cond.methodLinkNest (am_on x.1) x.2.1 (am_y x.2.2) "FunDesk" ∈ lw_tbl := List.forall_mem_cons.mpr ⟨q191, List.forall_mem_cons.mpr ⟨q795, List.forall_mem_cons.mpr ⟨q892, List.forall_mem_cons.mpr ⟨q905, List.forall_mem_cons.mpr ⟨q741, List.forall_mem_cons.mpr ⟨q774, List.forall_mem_cons.mpr ⟨q713, List.forall_mem_cons.mpr ⟨q764, List.forall_mem_cons.mpr ⟨q875, List.forall_mem_cons.mpr ⟨q848, List.forall_mem_cons.mpr ⟨q861, List.forall_mem_cons.mpr ⟨q392, List.forall_mem_cons.mpr ⟨q407, List.forall_mem_cons.mpr ⟨q417, List.forall_mem_cons.mpr ⟨q427, List.forall_mem_cons.mpr ⟨q494, List.forall_mem_cons.mpr ⟨q1220, List.forall_mem_cons.mpr ⟨q1294, List.forall_mem_cons.mpr ⟨q1207, List.forall_mem_cons.mpr ⟨q1211, List.forall_mem_cons.mpr ⟨q1296, List.forall_mem_cons.mpr ⟨q990, List.forall_mem_cons.mpr ⟨q1193, List.forall_mem_cons.mpr ⟨q1194, List.forall_mem_cons.mpr ⟨q1278, List.forall_mem_nil _⟩⟩⟩⟩⟩⟩⟩⟩⟩⟩⟩⟩⟩⟩⟩⟩⟩⟩⟩⟩⟩⟩⟩⟩⟩
def am_mn_1 : List (Nat × Nat × Nat) := [(7, 47, 63), (8, 22, 52), (8, 28, 53), (8, 43, 54), (8, 57, 63), (9, 25, 52), (9, 35, 54), (9, 49, 63), (10, 39, 52), (10, 43, 53), (10, 51, 58), (10, 55, 54), (10, 69, 63), (11, 38, 53), (12, 15, 203), (12, 18, 53), (13, 30, 58), (13, 39, 54), (14, 19, 203), (14, 28, 53), (14, 42, 52), (14, 55, 63), (15, 26, 203), (15, 41, 53), (15, 45, 52)]
theorem am_mn_ok1 : ∀ x ∈ am_mn_1, Cond.methodLinkNest (am_on x.1) x.2.1 (am_y x.2.2) "FunDesk" ∈ lw_tbl := List.forall_mem_cons.mpr ⟨q1281, List.forall_mem_cons.mpr ⟨q1064, List.forall_mem_cons.mpr ⟨q1065, List.forall_mem_cons.mpr ⟨q1074, List.forall_mem_cons.mpr ⟨q1318, List.forall_mem_cons.mpr ⟨q1169, List.forall_mem_cons.mpr ⟨q1170, List.forall_mem_cons.mpr ⟨q1303, List.forall_mem_cons.mpr ⟨q1114, List.forall_mem_cons.mpr ⟨q1115, List.forall_mem_cons.mpr ⟨q1116, List.forall_mem_cons.mpr ⟨q1153, List.forall_mem_cons.mpr ⟨q1309, List.forall_mem_cons.mpr ⟨q1147, List.forall_mem_cons.mpr ⟨q1039, List.forall_mem_cons.mpr ⟨q1128, List.forall_mem_cons.mpr ⟨q1136, List.forall_mem_cons.mpr ⟨q1138, List.forall_mem_cons.mpr ⟨q950, List.forall_mem_cons.mpr ⟨q1159, List.forall_mem_cons.mpr ⟨q1162, List.forall_mem_cons.mpr ⟨q1251, List.forall_mem_cons.mpr ⟨q981, List.forall_mem_cons.mpr ⟨q1176, List.forall_mem_cons.mpr ⟨q1177, List.forall_mem_nil _⟩⟩⟩⟩⟩⟩⟩⟩⟩⟩⟩⟩⟩⟩⟩⟩⟩⟩⟩⟩⟩⟩⟩⟩⟩
def am_mn_2 : List (Nat × Nat × Nat) := [(15, 49, 54), (15, 53, 55), (15, 57, 60), (15, 74, 63)]
theorem am_mn_ok2 : ∀ x ∈ am_mn_2, Cond.methodLinkNest (am_on x.1) x.2.1 (am_y x.2.2) "FunDesk" ∈ lw_tbl := List.forall_mem_cons.mpr ⟨q1178, List.forall_mem_cons.mpr ⟨q1179, List.forall_mem_cons.mpr ⟨q1180, List.forall_mem_cons.mpr ⟨q1299, List.forall_mem_nil _⟩⟩⟩⟩
def am_mn : List (Nat × Nat × Nat) := am_mn_0 ++ am_mn_1 ++ am_mn_2
theorem am_mn_ok : ∀ x ∈ am_mn, Cond.methodLinkNest (am_on x.1) x.2.1 (am_y x.2.2) "FunDesk" ∈ lw_tbl := List.forall_mem_append.mpr ⟨List.forall_mem_append.mpr ⟨am_mn_ok0, am_mn_ok1⟩, am_mn_ok2⟩
theorem q1056 : (Jvm.Cond.methodLink "FunDesk" (195 : Nat) ({ cls := "FunDesk$Expr", name := "infer", desc := "(LFunDesk;LFunDesk$Scope;)LFunDesk$Type;" } : Jvm.MethodName)) ∈ lw_all := lw_g (lw_at lw_m4 230 rfl) rfl
theorem q1120 : (Jvm.Cond.methodLink "FunDesk" (208 : Nat) ({ cls := "FunDesk$Pattern", name := "infer", desc := "(LFunDesk;)LFunDesk$Type;" } : Jvm.MethodName)) ∈ lw_all := lw_g (lw_at lw_m5 54 rfl) rfl
theorem q524 : (Jvm.Cond.methodLink "FunDesk" (495 : Nat) ({ cls := "FunDesk$Pattern", name := "fits", desc := "(LFunDesk;LFunDesk$Value;)Z" } : Jvm.MethodName)) ∈ lw_all := lw_g (lw_at lw_m2 178 rfl) rfl
theorem q923 : (Jvm.Cond.methodLink "FunDesk" (523 : Nat) ({ cls := "FunDesk$Expr", name := "look", desc := "(LFunDesk$Scope;)V" } : Jvm.MethodName)) ∈ lw_all := lw_g (lw_at lw_m4 97 rfl) rfl
theorem q1227 : (Jvm.Cond.methodLink "FunDesk" (540 : Nat) ({ cls := "FunDesk$Expr", name := "compile", desc := "(LFunDesk;LFunDesk$Scope;)V" } : Jvm.MethodName)) ∈ lw_all := lw_g (lw_at lw_m5 161 rfl) rfl
theorem q1022 : (Jvm.Cond.methodLink "FunDesk$Operation" (22 : Nat) ({ cls := "FunDesk$Expr", name := "look", desc := "(LFunDesk$Scope;)V" } : Jvm.MethodName)) ∈ lw_all := lw_g (lw_at lw_m4 196 rfl) rfl
theorem q1288 : (Jvm.Cond.methodLink "FunDesk$Operation" (57 : Nat) ({ cls := "FunDesk$Expr", name := "compile", desc := "(LFunDesk;LFunDesk$Scope;)V" } : Jvm.MethodName)) ∈ lw_all := lw_g (lw_at lw_m5 222 rfl) rfl
theorem q933 : (Jvm.Cond.methodLink "FunDesk$Applied" (16 : Nat) ({ cls := "FunDesk$Expr", name := "look", desc := "(LFunDesk$Scope;)V" } : Jvm.MethodName)) ∈ lw_all := lw_g (lw_at lw_m4 107 rfl) rfl
theorem q1236 : (Jvm.Cond.methodLink "FunDesk$Applied" (47 : Nat) ({ cls := "FunDesk$Expr", name := "compile", desc := "(LFunDesk;LFunDesk$Scope;)V" } : Jvm.MethodName)) ∈ lw_all := lw_g (lw_at lw_m5 170 rfl) rfl
theorem q973 : (Jvm.Cond.methodLink "FunDesk$If" (19 : Nat) ({ cls := "FunDesk$Expr", name := "look", desc := "(LFunDesk$Scope;)V" } : Jvm.MethodName)) ∈ lw_all := lw_g (lw_at lw_m4 147 rfl) rfl
theorem q1263 : (Jvm.Cond.methodLink "FunDesk$If" (39 : Nat) ({ cls := "FunDesk$Expr", name := "compile", desc := "(LFunDesk;LFunDesk$Scope;)V" } : Jvm.MethodName)) ∈ lw_all := lw_g (lw_at lw_m5 197 rfl) rfl
theorem q941 : (Jvm.Cond.methodLink "FunDesk$Case" (27 : Nat) ({ cls := "FunDesk$Expr", name := "look", desc := "(LFunDesk$Scope;)V" } : Jvm.MethodName)) ∈ lw_all := lw_g (lw_at lw_m4 115 rfl) rfl
theorem q1030 : (Jvm.Cond.methodLink "FunDesk$Case" (35 : Nat) ({ cls := "FunDesk$Pattern", name := "names", desc := "(LFunDesk$Scope;)LFunDesk$Scope;" } : Jvm.MethodName)) ∈ lw_all := lw_g (lw_at lw_m4 204 rfl) rfl
theorem q1243 : (Jvm.Cond.methodLink "FunDesk$Case" (59 : Nat) ({ cls := "FunDesk$Expr", name := "compile", desc := "(LFunDesk;LFunDesk$Scope;)V" } : Jvm.MethodName)) ∈ lw_all := lw_g (lw_at lw_m5 177 rfl) rfl
theorem q1046 : (Jvm.Cond.methodLink "FunDesk$Both" (16 : Nat) ({ cls := "FunDesk$Pattern", name := "names", desc := "(LFunDesk$Scope;)LFunDesk$Scope;" } : Jvm.MethodName)) ∈ lw_all := lw_g (lw_at lw_m4 220 rfl) rfl
theorem q547 : (Jvm.Cond.methodLink "FunDesk$Both" (48 : Nat) ({ cls := "FunDesk$Pattern", name := "fits", desc := "(LFunDesk;LFunDesk$Value;)Z" } : Jvm.MethodName)) ∈ lw_all := lw_g (lw_at lw_m2 201 rfl) rfl
theorem q965 : (Jvm.Cond.methodLink "FunDesk$Function" (22 : Nat) ({ cls := "FunDesk$Expr", name := "look", desc := "(LFunDesk$Scope;)V" } : Jvm.MethodName)) ∈ lw_all := lw_g (lw_at lw_m4 139 rfl) rfl
theorem q1256 : (Jvm.Cond.methodLink "FunDesk$Function" (59 : Nat) ({ cls := "FunDesk$Expr", name := "compile", desc := "(LFunDesk;LFunDesk$Scope;)V" } : Jvm.MethodName)) ∈ lw_all := lw_g (lw_at lw_m5 190 rfl) rfl
theorem q983 : (Jvm.Cond.methodLink "FunDesk$Let" (29 : Nat) ({ cls := "FunDesk$Expr", name := "look", desc := "(LFunDesk$Scope;)V" } : Jvm.MethodName)) ∈ lw_all := lw_g (lw_at lw_m4 157 rfl) rfl
theorem q1270 : (Jvm.Cond.methodLink "FunDesk$Let" (61 : Nat) ({ cls := "FunDesk$Expr", name := "compile", desc := "(LFunDesk;LFunDesk$Scope;)V" } : Jvm.MethodName)) ∈ lw_all := lw_g (lw_at lw_m5 204 rfl) rfl
def am_il_0 : List (Nat × Nat × Nat) := [(1, 195, 1), (1, 208, 4), (1, 495, 5), (1, 523, 0), (1, 540, 2), (6, 22, 0), (6, 57, 2), (8, 16, 0), (8, 47, 2), (9, 19, 0), (9, 39, 2), (10, 27, 0), (10, 35, 3), (10, 59, 2), (13, 16, 3), (13, 48, 5), (14, 22, 0), (14, 59, 2), (15, 29, 0), (15, 61, 2)]
theorem am_il_ok0 : ∀ x ∈ am_il_0, Cond.methodLink (am_on x.1) x.2.1 (am_im x.2.2) ∈ lw_all := List.forall_mem_cons.mpr ⟨q1056, List.forall_mem_cons.mpr ⟨q1120, List.forall_mem_cons.mpr ⟨q524, List.forall_mem_cons.mpr ⟨q923, List.forall_mem_cons.mpr ⟨q1227, List.forall_mem_cons.mpr ⟨q1022, List.forall_mem_cons.mpr ⟨q1288, List.forall_mem_cons.mpr ⟨q933, List.forall_mem_cons.mpr ⟨q1236, List.forall_mem_cons.mpr ⟨q973, List.forall_mem_cons.mpr ⟨q1263, List.forall_mem_cons.mpr ⟨q941, List.forall_mem_cons.mpr ⟨q1030, List.forall_mem_cons.mpr ⟨q1243, List.forall_mem_cons.mpr ⟨q1046, List.forall_mem_cons.mpr ⟨q547, List.forall_mem_cons.mpr ⟨q965, List.forall_mem_cons.mpr ⟨q1256, List.forall_mem_cons.mpr ⟨q983, List.forall_mem_cons.mpr ⟨q1270, List.forall_mem_nil _⟩⟩⟩⟩⟩⟩⟩⟩⟩⟩⟩⟩⟩⟩⟩⟩⟩⟩⟩⟩
def am_il : List (Nat × Nat × Nat) := am_il_0
theorem am_il_ok : ∀ x ∈ am_il, Cond.methodLink (am_on x.1) x.2.1 (am_im x.2.2) ∈ lw_all := am_il_ok0
theorem q142 : (Jvm.Cond.classLink "FunDeskLaw" (8 : Nat) "FunDesk") ∈ lw_all := lw_g (lw_at lw_m1 36 rfl) rfl
theorem q570 : (Jvm.Cond.classLink "FunDeskLaw" (13 : Nat) "java/lang/IllegalArgumentException") ∈ lw_all := lw_g (lw_at lw_m2 224 rfl) rfl
theorem q571 : (Jvm.Cond.classLink "FunDeskLaw" (15 : Nat) "java/util/NoSuchElementException") ∈ lw_all := lw_g (lw_at lw_m2 225 rfl) rfl
theorem q572 : (Jvm.Cond.classLink "FunDeskLaw" (17 : Nat) "java/lang/UnsupportedOperationException") ∈ lw_all := lw_g (lw_at lw_m2 226 rfl) rfl
theorem q1336 : (Jvm.Cond.classLink "FunDeskLaw" (23 : Nat) "java/lang/IllegalStateException") ∈ lw_all := lw_g (lw_at lw_m6 30 rfl) rfl
theorem q1337 : (Jvm.Cond.classLink "FunDeskLaw" (25 : Nat) "java/lang/IndexOutOfBoundsException") ∈ lw_all := lw_g (lw_at lw_m6 31 rfl) rfl
theorem q1402 : (Jvm.Cond.classLink "FunDeskLaw" (39 : Nat) "FunDeskModel") ∈ lw_all := lw_g (lw_at lw_m6 96 rfl) rfl
theorem q150 : (Jvm.Cond.classLink "FunDesk" (7 : Nat) "FunDesk$Type") ∈ lw_all := lw_g (lw_at lw_m1 44 rfl) rfl
theorem q185 : (Jvm.Cond.classLink "FunDesk" (50 : Nat) "FunDesk$Op") ∈ lw_all := lw_g (lw_at lw_m1 79 rfl) rfl
theorem q187 : (Jvm.Cond.classLink "FunDesk" (60 : Nat) "FunDesk$Pattern") ∈ lw_all := lw_g (lw_at lw_m1 81 rfl) rfl
theorem q189 : (Jvm.Cond.classLink "FunDesk" (66 : Nat) "FunDesk$Nil") ∈ lw_all := lw_g (lw_at lw_m1 83 rfl) rfl
theorem q201 : (Jvm.Cond.classLink "FunDesk" (73 : Nat) "FunDesk$Value") ∈ lw_all := lw_g (lw_at lw_m1 95 rfl) rfl
theorem q203 : (Jvm.Cond.classLink "FunDesk" (82 : Nat) "FunDesk$Env") ∈ lw_all := lw_g (lw_at lw_m1 97 rfl) rfl
theorem q583 : (Jvm.Cond.classLink "FunDesk" (118 : Nat) "java/lang/UnsupportedOperationException") ∈ lw_all := lw_g (lw_at lw_m2 237 rfl) rfl
theorem q582 : (Jvm.Cond.classLink "FunDesk" (192 : Nat) "java/util/NoSuchElementException") ∈ lw_all := lw_g (lw_at lw_m2 236 rfl) rfl
theorem q581 : (Jvm.Cond.classLink "FunDesk" (211 : Nat) "java/lang/IllegalArgumentException") ∈ lw_all := lw_g (lw_at lw_m2 235 rfl) rfl
theorem q793 : (Jvm.Cond.classLink "FunDesk" (251 : Nat) "FunDesk$If") ∈ lw_all := lw_g (lw_at lw_m3 207 rfl) rfl
theorem q890 : (Jvm.Cond.classLink "FunDesk" (260 : Nat) "FunDesk$Function") ∈ lw_all := lw_g (lw_at lw_m4 64 rfl) rfl
theorem q903 : (Jvm.Cond.classLink "FunDesk" (265 : Nat) "FunDesk$Let") ∈ lw_all := lw_g (lw_at lw_m4 77 rfl) rfl
theorem q813 : (Jvm.Cond.classLink "FunDesk" (270 : Nat) "FunDesk$Case") ∈ lw_all := lw_g (lw_at lw_m3 227 rfl) rfl
theorem q735 : (Jvm.Cond.classLink "FunDesk" (295 : Nat) "FunDesk$Operation") ∈ lw_all := lw_g (lw_at lw_m3 149 rfl) rfl
theorem q772 : (Jvm.Cond.classLink "FunDesk" (325 : Nat) "FunDesk$Applied") ∈ lw_all := lw_g (lw_at lw_m3 186 rfl) rfl
theorem q709 : (Jvm.Cond.classLink "FunDesk" (333 : Nat) "FunDesk$Plain") ∈ lw_all := lw_g (lw_at lw_m3 123 rfl) rfl
theorem q762 : (Jvm.Cond.classLink "FunDesk" (351 : Nat) "FunDesk$Name") ∈ lw_all := lw_g (lw_at lw_m3 176 rfl) rfl
theorem q869 : (Jvm.Cond.classLink "FunDesk" (366 : Nat) "FunDesk$Both") ∈ lw_all := lw_g (lw_at lw_m4 43 rfl) rfl
theorem q846 : (Jvm.Cond.classLink "FunDesk" (374 : Nat) "FunDesk$Same") ∈ lw_all := lw_g (lw_at lw_m4 20 rfl) rfl
theorem q859 : (Jvm.Cond.classLink "FunDesk" (379 : Nat) "FunDesk$Any") ∈ lw_all := lw_g (lw_at lw_m4 33 rfl) rfl
theorem q390 : (Jvm.Cond.classLink "FunDesk" (392 : Nat) "FunDesk$Whole") ∈ lw_all := lw_g (lw_at lw_m2 44 rfl) rfl
theorem q404 : (Jvm.Cond.classLink "FunDesk" (396 : Nat) "FunDesk$Broken") ∈ lw_all := lw_g (lw_at lw_m2 58 rfl) rfl
theorem q415 : (Jvm.Cond.classLink "FunDesk" (440 : Nat) "FunDesk$Built") ∈ lw_all := lw_g (lw_at lw_m2 69 rfl) rfl
theorem q425 : (Jvm.Cond.classLink "FunDesk" (452 : Nat) "FunDesk$Closure") ∈ lw_all := lw_g (lw_at lw_m2 79 rfl) rfl
theorem q492 : (Jvm.Cond.classLink "FunDesk" (499 : Nat) "FunDesk$Cons") ∈ lw_all := lw_g (lw_at lw_m2 146 rfl) rfl
theorem q1346 : (Jvm.Cond.classLink "FunDesk" (565 : Nat) "java/lang/IllegalStateException") ∈ lw_all := lw_g (lw_at lw_m6 40 rfl) rfl
theorem q1361 : (Jvm.Cond.classLink "FunDesk" (574 : Nat) "java/lang/IndexOutOfBoundsException") ∈ lw_all := lw_g (lw_at lw_m6 55 rfl) rfl
theorem q1218 : (Jvm.Cond.classLink "FunDesk$Plain" (26 : Nat) "FunDesk$Type") ∈ lw_all := lw_g (lw_at lw_m5 152 rfl) rfl
theorem q1208 : (Jvm.Cond.classLink "FunDesk$Operation" (32 : Nat) "FunDesk$Type") ∈ lw_all := lw_g (lw_at lw_m5 142 rfl) rfl
theorem q1071 : (Jvm.Cond.classLink "FunDesk$Applied" (32 : Nat) "FunDesk$Type") ∈ lw_all := lw_g (lw_at lw_m5 5 rfl) rfl
theorem q819 : (Jvm.Cond.classLink "FunDesk$Case" (9 : Nat) "FunDesk$Pattern") ∈ lw_all := lw_g (lw_at lw_m3 233 rfl) rfl
theorem q820 : (Jvm.Cond.classLink "FunDesk$Case" (17 : Nat) "FunDesk$Expr") ∈ lw_all := lw_g (lw_at lw_m3 234 rfl) rfl
theorem q1146 : (Jvm.Cond.classLink "FunDesk$Same" (33 : Nat) "FunDesk$Type") ∈ lw_all := lw_g (lw_at lw_m5 80 rfl) rfl
theorem q556 : (Jvm.Cond.classLink "FunDesk$Same" (45 : Nat) "FunDesk$Nil") ∈ lw_all := lw_g (lw_at lw_m2 210 rfl) rfl
theorem q557 : (Jvm.Cond.classLink "FunDesk$Same" (47 : Nat) "FunDesk$Whole") ∈ lw_all := lw_g (lw_at lw_m2 211 rfl) rfl
theorem q1038 : (Jvm.Cond.classLink "FunDesk$Any" (13 : Nat) "FunDesk$Scope") ∈ lw_all := lw_g (lw_at lw_m4 212 rfl) rfl
theorem q533 : (Jvm.Cond.classLink "FunDesk$Any" (28 : Nat) "FunDesk$Env") ∈ lw_all := lw_g (lw_at lw_m2 187 rfl) rfl
theorem q1134 : (Jvm.Cond.classLink "FunDesk$Both" (22 : Nat) "FunDesk$Type") ∈ lw_all := lw_g (lw_at lw_m5 68 rfl) rfl
theorem q541 : (Jvm.Cond.classLink "FunDesk$Both" (43 : Nat) "FunDesk$Cons") ∈ lw_all := lw_g (lw_at lw_m2 195 rfl) rfl
theorem q948 : (Jvm.Cond.classLink "FunDesk$Function" (17 : Nat) "FunDesk$Scope") ∈ lw_all := lw_g (lw_at lw_m4 122 rfl) rfl
theorem q1160 : (Jvm.Cond.classLink "FunDesk$Function" (34 : Nat) "FunDesk$Type") ∈ lw_all := lw_g (lw_at lw_m5 94 rfl) rfl
theorem q980 : (Jvm.Cond.classLink "FunDesk$Let" (24 : Nat) "FunDesk$Scope") ∈ lw_all := lw_g (lw_at lw_m4 154 rfl) rfl
def am_kl_0 : List (Nat × Nat × Nat) := [(0, 8, 1), (0, 13, 23), (0, 15, 24), (0, 17, 25), (0, 23, 26), (0, 25, 27), (0, 39, 4), (1, 7, 105), (1, 7, 2), (1, 50, 106), (1, 60, 107), (1, 66, 3), (1, 73, 108), (1, 82, 109), (1, 82, 21), (1, 118, 25), (1, 192, 24), (1, 211, 23), (1, 251, 9), (1, 260, 14), (1, 265, 15), (1, 270, 10), (1, 295, 6), (1, 325, 8), (1, 333, 5)]
theorem am_kl_ok0 : ∀ x ∈ am_kl_0, Cond.classLink (am_on x.1) x.2.1 (am_kn x.2.2) ∈ lw_all := List.forall_mem_cons.mpr ⟨q142, List.forall_mem_cons.mpr ⟨q570, List.forall_mem_cons.mpr ⟨q571, List.forall_mem_cons.mpr ⟨q572, List.forall_mem_cons.mpr ⟨q1336, List.forall_mem_cons.mpr ⟨q1337, List.forall_mem_cons.mpr ⟨q1402, List.forall_mem_cons.mpr ⟨q150, List.forall_mem_cons.mpr ⟨q150, List.forall_mem_cons.mpr ⟨q185, List.forall_mem_cons.mpr ⟨q187, List.forall_mem_cons.mpr ⟨q189, List.forall_mem_cons.mpr ⟨q201, List.forall_mem_cons.mpr ⟨q203, List.forall_mem_cons.mpr ⟨q203, List.forall_mem_cons.mpr ⟨q583, List.forall_mem_cons.mpr ⟨q582, List.forall_mem_cons.mpr ⟨q581, List.forall_mem_cons.mpr ⟨q793, List.forall_mem_cons.mpr ⟨q890, List.forall_mem_cons.mpr ⟨q903, List.forall_mem_cons.mpr ⟨q813, List.forall_mem_cons.mpr ⟨q735, List.forall_mem_cons.mpr ⟨q772, List.forall_mem_cons.mpr ⟨q709, List.forall_mem_nil _⟩⟩⟩⟩⟩⟩⟩⟩⟩⟩⟩⟩⟩⟩⟩⟩⟩⟩⟩⟩⟩⟩⟩⟩⟩
def am_kl_1 : List (Nat × Nat × Nat) := [(1, 351, 7), (1, 366, 13), (1, 374, 11), (1, 379, 12), (1, 392, 17), (1, 396, 18), (1, 440, 19), (1, 452, 20), (1, 499, 22), (1, 565, 26), (1, 574, 27), (5, 26, 2), (6, 32, 2), (8, 32, 2), (10, 9, 107), (10, 17, 110), (11, 33, 2), (11, 45, 3), (11, 47, 17), (12, 13, 16), (12, 28, 21), (13, 22, 2), (13, 43, 22), (14, 17, 16), (14, 34, 2)]
theorem am_kl_ok1 : ∀ x ∈ am_kl_1, Cond.classLink (am_on x.1) x.2.1 (am_kn x.2.2) ∈ lw_all := List.forall_mem_cons.mpr ⟨q762, List.forall_mem_cons.mpr ⟨q869, List.forall_mem_cons.mpr ⟨q846, List.forall_mem_cons.mpr ⟨q859, List.forall_mem_cons.mpr ⟨q390, List.forall_mem_cons.mpr ⟨q404, List.forall_mem_cons.mpr ⟨q415, List.forall_mem_cons.mpr ⟨q425, List.forall_mem_cons.mpr ⟨q492, List.forall_mem_cons.mpr ⟨q1346, List.forall_mem_cons.mpr ⟨q1361, List.forall_mem_cons.mpr ⟨q1218, List.forall_mem_cons.mpr ⟨q1208, List.forall_mem_cons.mpr ⟨q1071, List.forall_mem_cons.mpr ⟨q819, List.forall_mem_cons.mpr ⟨q820, List.forall_mem_cons.mpr ⟨q1146, List.forall_mem_cons.mpr ⟨q556, List.forall_mem_cons.mpr ⟨q557, List.forall_mem_cons.mpr ⟨q1038, List.forall_mem_cons.mpr ⟨q533, List.forall_mem_cons.mpr ⟨q1134, List.forall_mem_cons.mpr ⟨q541, List.forall_mem_cons.mpr ⟨q948, List.forall_mem_cons.mpr ⟨q1160, List.forall_mem_nil _⟩⟩⟩⟩⟩⟩⟩⟩⟩⟩⟩⟩⟩⟩⟩⟩⟩⟩⟩⟩⟩⟩⟩⟩⟩
def am_kl_2 : List (Nat × Nat × Nat) := [(15, 24, 16)]
theorem am_kl_ok2 : ∀ x ∈ am_kl_2, Cond.classLink (am_on x.1) x.2.1 (am_kn x.2.2) ∈ lw_all := List.forall_mem_cons.mpr ⟨q980, List.forall_mem_nil _⟩
def am_kl : List (Nat × Nat × Nat) := am_kl_0 ++ am_kl_1 ++ am_kl_2
theorem am_kl_ok : ∀ x ∈ am_kl, Cond.classLink (am_on x.1) x.2.1 (am_kn x.2.2) ∈ lw_all := List.forall_mem_append.mpr ⟨List.forall_mem_append.mpr ⟨am_kl_ok0, am_kl_ok1⟩, am_kl_ok2⟩
theorem q406 : (Jvm.Cond.constantDouble "FunDesk" (435 : Nat) (4652007308841189376 : UInt64)) ∈ lw_all := lw_g (lw_at lw_m2 60 rfl) rfl
theorem q509 : (Jvm.Cond.constantDouble "FunDesk" (511 : Nat) (4741671816366391296 : UInt64)) ∈ lw_all := lw_g (lw_at lw_m2 163 rfl) rfl
theorem q510 : (Jvm.Cond.constantDouble "FunDesk" (513 : Nat) (13965043853221167104 : UInt64)) ∈ lw_all := lw_g (lw_at lw_m2 164 rfl) rfl
theorem q1699 : (Jvm.Cond.constant "FunDeskModel" (200 : Nat) (65535 : Int32)) ∈ lw_all := lw_g (lw_at lw_m7 153 rfl) rfl
theorem q1869 : (Jvm.Cond.constantLong "FunDeskModel" (348 : Nat) (8 : Int64)) ∈ lw_all := lw_g (lw_at lw_m8 83 rfl) rfl
theorem q1878 : (Jvm.Cond.constantLong "FunDeskModel" (350 : Nat) (7 : Int64)) ∈ lw_all := lw_g (lw_at lw_m8 92 rfl) rfl
theorem q1897 : (Jvm.Cond.constantDouble "FunDeskModel" (362 : Nat) (4652007308841189376 : UInt64)) ∈ lw_all := lw_g (lw_at lw_m8 111 rfl) rfl
theorem q1910 : (Jvm.Cond.constantDouble "FunDeskModel" (401 : Nat) (4741671816366391296 : UInt64)) ∈ lw_all := lw_g (lw_at lw_m8 124 rfl) rfl
theorem q1911 : (Jvm.Cond.constantDouble "FunDeskModel" (403 : Nat) (13965043853221167104 : UInt64)) ∈ lw_all := lw_g (lw_at lw_m8 125 rfl) rfl
theorem q1920 : (Jvm.Cond.constantLong "FunDeskModel" (425 : Nat) (6 : Int64)) ∈ lw_all := lw_g (lw_at lw_m8 134 rfl) rfl
def am_ck_0 : List (Nat × Nat × Nat) := [(1, 435, 0), (1, 511, 1), (1, 513, 2), (4, 200, 3), (4, 348, 4), (4, 350, 5), (4, 362, 0), (4, 401, 1), (4, 403, 2), (4, 425, 6)]
theorem am_ck_ok0 : ∀ x ∈ am_ck_0, (match am_kv x.2.2 with
  | .int v => Cond.constant (am_on x.1) x.2.1 v
  | .long v => Cond.constantLong (am_on x.1) x.2.1 v
  | .double v => Cond.constantDouble (am_on x.1) x.2.1 v
  | _ => Cond.tt) ∈ lw_all := List.forall_mem_cons.mpr ⟨q406, List.forall_mem_cons.mpr ⟨q509, List.forall_mem_cons.mpr ⟨q510, List.forall_mem_cons.mpr ⟨q1699, List.forall_mem_cons.mpr ⟨q1869, List.forall_mem_cons.mpr ⟨q1878, List.forall_mem_cons.mpr ⟨q1897, List.forall_mem_cons.mpr ⟨q1910, List.forall_mem_cons.mpr ⟨q1911, List.forall_mem_cons.mpr ⟨q1920, List.forall_mem_nil _⟩⟩⟩⟩⟩⟩⟩⟩⟩⟩
def am_ck : List (Nat × Nat × Nat) := am_ck_0
theorem am_ck_ok : ∀ x ∈ am_ck, (match am_kv x.2.2 with
  | .int v => Cond.constant (am_on x.1) x.2.1 v
  | .long v => Cond.constantLong (am_on x.1) x.2.1 v
  | .double v => Cond.constantDouble (am_on x.1) x.2.1 v
  | _ => Cond.tt) ∈ lw_all := am_ck_ok0
