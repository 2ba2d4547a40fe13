/-! THE METHODS BY NUMBER, by tools/genmeth.py -/
set_option maxRecDepth 100000
def mn_1 : MethodName := ⟨"ArmsHouse$One", "work", "(LArmsHouse$Arms;)Ljava/lang/Object;"⟩
def mn_2 : MethodName := ⟨"ArmsHouse$Number", "work", "(LArmsHouse$Arms;)Ljava/lang/Object;"⟩
def mn_3 : MethodName := ⟨"ArmsHouse$Plain", "work", "(LArmsHouse$Arms;)Ljava/lang/Object;"⟩
def mn_4 : MethodName := ⟨"ArmsHouse$Try", "work", "(LArmsHouse$Arms;)Ljava/lang/Object;"⟩
def mn_5 : MethodName := ⟨"ArmsHouse$Two", "work", "(LArmsHouse$Arms;)Ljava/lang/Object;"⟩
def mn_6 : MethodName := ⟨"ArmsHouse$Field", "tinct", "()LArmsHouse$Whole;"⟩
def mn_7 : MethodName := ⟨"ArmsHouse$Layer", "tinct", "()LArmsHouse$Whole;"⟩
def mn_8 : MethodName := ⟨"ArmsHouse$OneTinged", "tinct", "()LArmsHouse$Whole;"⟩
def mn_9 : MethodName := ⟨"ArmsHouse$Ordinary", "told", "()LArmsHouse$Whole;"⟩
def mn_10 : MethodName := ⟨"ArmsHouse$Group", "told", "()LArmsHouse$Whole;"⟩
def mn_11 : MethodName := ⟨"ArmsHouse$Ordinary", "tincture", "()I"⟩
def mn_12 : MethodName := ⟨"ArmsHouse$Group", "tincture", "()I"⟩
def mn_20 : MethodName := ⟨"java/lang/String", "length", "()I"⟩
def mn_21 : MethodName := ⟨"java/lang/String", "coder", "()B"⟩
def mn_22 : MethodName := ⟨"java/lang/String", "charAt", "(I)C"⟩
def mn_23 : MethodName := ⟨"java/lang/String", "isLatin1", "()Z"⟩
def mn_24 : MethodName := ⟨"java/lang/String", "checkIndex", "(II)V"⟩
def mn_25 : MethodName := ⟨"java/lang/StringLatin1", "charAt", "([BI)C"⟩
def mn_26 : MethodName := ⟨"jdk/internal/util/Preconditions", "checkIndex", "(IILjava/util/function/BiFunction;)I"⟩
def mn_27 : MethodName := ⟨"java/lang/Math", "max", "(II)I"⟩
def mn_28 : MethodName := ⟨"java/lang/Math", "floorMod", "(II)I"⟩
def mn_29 : MethodName := ⟨"java/lang/Math", "abs", "(I)I"⟩
def mn_31 : MethodName := ⟨"ArmsHouse", "<init>", "()V"⟩
def mn_32 : MethodName := ⟨"ArmsHouse", "beginFamily", "()V"⟩
def mn_33 : MethodName := ⟨"ArmsHouse", "member", "(I)LArmsHouse$Arms;"⟩
def mn_34 : MethodName := ⟨"ArmsHouse", "isClean", "(LArmsHouse$Arms;)Z"⟩
def mn_35 : MethodName := ⟨"ArmsHouse", "judge", "(LArmsHouse$Arms;)V"⟩
def mn_36 : MethodName := ⟨"ArmsHouse", "kindOf", "(I)I"⟩
def mn_37 : MethodName := ⟨"ArmsHouse", "lies", "(III)V"⟩
def mn_38 : MethodName := ⟨"ArmsHouse", "feed", "(JI)I"⟩
def mn_39 : MethodName := ⟨"ArmsHouse", "in", "(JJJ)Z"⟩
def mn_40 : MethodName := ⟨"ArmsHouse", "cut", "(I)I"⟩
def mn_41 : MethodName := ⟨"ArmsHouse", "turn", "()I"⟩
def mn_42 : MethodName := ⟨"ArmsHouse", "out", "(I)I"⟩
def mn_43 : MethodName := ⟨"ArmsHouse", "blazon", "()I"⟩
def mn_44 : MethodName := ⟨"ArmsHouse", "take", "()V"⟩
def mn_45 : MethodName := ⟨"ArmsHouse", "read", "(LArmsHouse$Text;)LArmsHouse$Arms;"⟩
def mn_46 : MethodName := ⟨"ArmsHouse", "field", "(LArmsHouse$Text;)LArmsHouse$Field;"⟩
def mn_47 : MethodName := ⟨"ArmsHouse", "line", "(LArmsHouse$Text;)I"⟩
def mn_48 : MethodName := ⟨"ArmsHouse", "number", "(LArmsHouse$Text;IZ)I"⟩
def mn_49 : MethodName := ⟨"ArmsHouse", "layer", "(LArmsHouse$Text;I)LArmsHouse$Layer;"⟩
def mn_50 : MethodName := ⟨"ArmsHouse", "ordinary", "(LArmsHouse$Text;I)LArmsHouse$Ordinary;"⟩
def mn_51 : MethodName := ⟨"ArmsHouse", "group", "(LArmsHouse$Text;)LArmsHouse$Group;"⟩
def mn_52 : MethodName := ⟨"ArmsHouse", "firstAttitude", "(I)I"⟩
def mn_53 : MethodName := ⟨"ArmsHouse", "mayStand", "(II)Z"⟩
def mn_54 : MethodName := ⟨"ArmsHouse", "settle", "([LArmsHouse$Layer;)V"⟩
def mn_55 : MethodName := ⟨"ArmsHouse", "told", "()I"⟩
def mn_56 : MethodName := ⟨"ArmsHouse", "enterArms", "(LArmsHouse$Arms;)I"⟩
def mn_57 : MethodName := ⟨"ArmsHouse", "fault", "()I"⟩
def mn_58 : MethodName := ⟨"ArmsHouse", "one", "(II)I"⟩
def mn_59 : MethodName := ⟨"ArmsHouse", "areThere", "(I)Z"⟩
def mn_60 : MethodName := ⟨"ArmsHouse", "armsOf", "(I)LArmsHouse$Arms;"⟩
def mn_61 : MethodName := ⟨"ArmsHouse", "points", "(LArmsHouse$Arms;LArmsHouse$Arms;)I"⟩
def mn_62 : MethodName := ⟨"ArmsHouse", "differ", "(II)I"⟩
def mn_63 : MethodName := ⟨"ArmsHouse", "points", "(LArmsHouse$Layer;LArmsHouse$Layer;)I"⟩
def mn_64 : MethodName := ⟨"ArmsHouse", "layers", "(I)I"⟩
def mn_65 : MethodName := ⟨"ArmsHouse", "meaning", "(III)I"⟩
def mn_66 : MethodName := ⟨"ArmsHouse", "ofOrdinary", "(LArmsHouse$Ordinary;I)I"⟩
def mn_67 : MethodName := ⟨"ArmsHouse", "ofLayer", "(LArmsHouse$Layer;I)I"⟩
def mn_68 : MethodName := ⟨"ArmsHouse", "write", "(I)I"⟩
def mn_69 : MethodName := ⟨"ArmsHouse", "writeArms", "(LArmsHouse$Arms;)V"⟩
def mn_70 : MethodName := ⟨"ArmsHouse", "word", "(I)V"⟩
def mn_71 : MethodName := ⟨"ArmsHouse", "put", "(I)V"⟩
def mn_72 : MethodName := ⟨"ArmsHouse", "writeLine", "(I)V"⟩
def mn_73 : MethodName := ⟨"ArmsHouse", "number", "(I)V"⟩
def mn_74 : MethodName := ⟨"ArmsHouse", "writeLayer", "(LArmsHouse$Layer;)V"⟩
def mn_75 : MethodName := ⟨"ArmsHouse", "writeGroup", "(LArmsHouse$Group;)V"⟩
def mn_76 : MethodName := ⟨"ArmsHouse", "breaches", "(I)I"⟩
def mn_77 : MethodName := ⟨"ArmsHouse", "breach", "(II)I"⟩
def mn_78 : MethodName := ⟨"ArmsHouse", "dot", "(III)I"⟩
def mn_79 : MethodName := ⟨"ArmsHouse", "draw", "(LArmsHouse$Arms;)V"⟩
def mn_80 : MethodName := ⟨"ArmsHouse", "isInside", "(II)Z"⟩
def mn_81 : MethodName := ⟨"ArmsHouse", "isFirst", "(LArmsHouse$Field;II)Z"⟩
def mn_82 : MethodName := ⟨"ArmsHouse", "bend", "(II)I"⟩
def mn_83 : MethodName := ⟨"ArmsHouse", "drawLayer", "(LArmsHouse$Layer;I)V"⟩
def mn_84 : MethodName := ⟨"ArmsHouse", "isOn", "(LArmsHouse$Ordinary;II)Z"⟩
def mn_85 : MethodName := ⟨"ArmsHouse", "setPlaces", "(LArmsHouse$Layer;)V"⟩
def mn_86 : MethodName := ⟨"ArmsHouse", "box", "(II)V"⟩
def mn_87 : MethodName := ⟨"ArmsHouse", "fits", "(LArmsHouse$Layer;I)Z"⟩
def mn_88 : MethodName := ⟨"ArmsHouse", "covers", "(IIII)Z"⟩
def mn_89 : MethodName := ⟨"ArmsHouse", "isFree", "(LArmsHouse$Layer;II)Z"⟩
def mn_90 : MethodName := ⟨"ArmsHouse", "drawThing", "(LArmsHouse$Group;II)V"⟩
def mn_91 : MethodName := ⟨"ArmsHouse", "dots", "(II)I"⟩
def mn_92 : MethodName := ⟨"ArmsHouse", "size", "(II)I"⟩
def mn_93 : MethodName := ⟨"ArmsHouse", "person", "(ZIIII)I"⟩
def mn_94 : MethodName := ⟨"ArmsHouse", "mayBeParent", "(I)Z"⟩
def mn_95 : MethodName := ⟨"ArmsHouse", "isDay", "(I)Z"⟩
def mn_96 : MethodName := ⟨"ArmsHouse", "dies", "(II)I"⟩
def mn_97 : MethodName := ⟨"ArmsHouse", "isPerson", "(I)Z"⟩
def mn_98 : MethodName := ⟨"ArmsHouse", "quarter", "(III)I"⟩
def mn_99 : MethodName := ⟨"ArmsHouse", "marshal", "(I)V"⟩
def mn_100 : MethodName := ⟨"ArmsHouse", "addQuarter", "(II)V"⟩
def mn_101 : MethodName := ⟨"ArmsHouse", "addQuarters", "(ILArmsHouse$Person;)V"⟩
def mn_102 : MethodName := ⟨"ArmsHouse", "isHeiress", "(LArmsHouse$Person;I)Z"⟩
def mn_103 : MethodName := ⟨"ArmsHouse", "mark", "(III)I"⟩
def mn_104 : MethodName := ⟨"ArmsHouse", "markOf", "(LArmsHouse$Person;I)I"⟩
def mn_105 : MethodName := ⟨"ArmsHouse", "clashes", "(I)I"⟩
def mn_106 : MethodName := ⟨"ArmsHouse", "clashesOf", "(II)I"⟩
def mn_107 : MethodName := ⟨"ArmsHouse", "areAlike", "(III)Z"⟩
def mn_108 : MethodName := ⟨"ArmsHouse", "clash", "(II)I"⟩
def mn_109 : MethodName := ⟨"ArmsHouse", "enter", "(II)I"⟩
def mn_110 : MethodName := ⟨"ArmsHouse", "strike", "(II)I"⟩
def mn_111 : MethodName := ⟨"ArmsHouse", "points", "(II)I"⟩
def mn_112 : MethodName := ⟨"ArmsHouse", "conflicts", "(II)I"⟩
def mn_113 : MethodName := ⟨"ArmsHouse", "conflictsOf", "(LArmsHouse$Arms;II)I"⟩
def mn_114 : MethodName := ⟨"ArmsHouse", "conflict", "(III)I"⟩
def mn_115 : MethodName := ⟨"ArmsHouse", "clear", "(II)I"⟩
def mn_116 : MethodName := ⟨"ArmsHouse", "isClear", "(LArmsHouse$Arms;I)Z"⟩
def mn_117 : MethodName := ⟨"ArmsHouse", "clearsByOne", "(LArmsHouse$Arms;I)Z"⟩
def mn_118 : MethodName := ⟨"ArmsHouse", "tinged", "(LArmsHouse$Arms;)I"⟩
def mn_119 : MethodName := ⟨"ArmsHouse", "clears", "(LArmsHouse$Arms;III)Z"⟩
def mn_120 : MethodName := ⟨"ArmsHouse", "tinge", "(LArmsHouse$Arms;II)I"⟩
def mn_121 : MethodName := ⟨"ArmsHouse", "clearsByTwo", "(LArmsHouse$Arms;I)Z"⟩
def mn_122 : MethodName := ⟨"ArmsHouse", "clause", "()I"⟩
def mn_123 : MethodName := ⟨"ArmsHouse", "either", "(I)LArmsHouse$Node;"⟩
def mn_124 : MethodName := ⟨"ArmsHouse", "may", "(IZ)Z"⟩
def mn_125 : MethodName := ⟨"ArmsHouse", "begins", "()Z"⟩
def mn_126 : MethodName := ⟨"ArmsHouse", "both", "(I)LArmsHouse$Node;"⟩
def mn_127 : MethodName := ⟨"ArmsHouse", "no", "(I)LArmsHouse$Node;"⟩
def mn_128 : MethodName := ⟨"ArmsHouse", "part", "()V"⟩
def mn_129 : MethodName := ⟨"ArmsHouse", "added", "(I)LArmsHouse$Node;"⟩
def mn_130 : MethodName := ⟨"ArmsHouse", "multiplied", "(I)LArmsHouse$Node;"⟩
def mn_131 : MethodName := ⟨"ArmsHouse", "unary", "(I)LArmsHouse$Node;"⟩
def mn_132 : MethodName := ⟨"ArmsHouse", "ask", "(II)I"⟩
def mn_133 : MethodName := ⟨"ArmsHouse", "asked", "(ILArmsHouse$Arms;)I"⟩
def mn_134 : MethodName := ⟨"ArmsHouse", "wholeOf", "(LArmsHouse$Node;LArmsHouse$Arms;)J"⟩
def mn_135 : MethodName := ⟨"ArmsHouse", "value", "()J"⟩
def mn_136 : MethodName := ⟨"ArmsHouse", "failedAt", "()I"⟩
def mn_137 : MethodName := ⟨"ArmsHouse", "family", "(I)I"⟩
def mn_138 : MethodName := ⟨"ArmsHouse", "at", "(I)I"⟩
def mn_139 : MethodName := ⟨"ArmsHouse", "rank", "(I)I"⟩
def mn_140 : MethodName := ⟨"ArmsHouse", "rankFrom", "(I)I"⟩
def mn_141 : MethodName := ⟨"ArmsHouse", "find", "(IIII)I"⟩
def mn_142 : MethodName := ⟨"ArmsHouse", "tells", "(ILArmsHouse$Arms;)Z"⟩
def mn_143 : MethodName := ⟨"ArmsHouse", "tally", "(III)I"⟩
def mn_144 : MethodName := ⟨"ArmsHouse", "show", "(III)I"⟩
def mn_145 : MethodName := ⟨"ArmsHouse", "least", "()I"⟩
def mn_146 : MethodName := ⟨"ArmsHouse", "count", "(I)I"⟩
def mn_147 : MethodName := ⟨"ArmsHouse$Text", "<init>", "(LArmsHouse;)V"⟩
def mn_148 : MethodName := ⟨"ArmsHouse$Text", "cut", "([II)V"⟩
def mn_149 : MethodName := ⟨"ArmsHouse$Text", "token", "(I)I"⟩
def mn_150 : MethodName := ⟨"ArmsHouse$Text", "isLetter", "(I)Z"⟩
def mn_151 : MethodName := ⟨"ArmsHouse$Text", "word", "(II)I"⟩
def mn_152 : MethodName := ⟨"ArmsHouse$Text", "isFigure", "(I)Z"⟩
def mn_153 : MethodName := ⟨"ArmsHouse$Text", "isIn", "(II)Z"⟩
def mn_154 : MethodName := ⟨"ArmsHouse$Text", "wantIn", "(II)I"⟩
def mn_155 : MethodName := ⟨"ArmsHouse$Text", "wrong", "()V"⟩
def mn_156 : MethodName := ⟨"ArmsHouse$Text", "fail", "(II)V"⟩
def mn_157 : MethodName := ⟨"ArmsHouse$Text", "takes", "(I)Z"⟩
def mn_158 : MethodName := ⟨"ArmsHouse$Text", "is", "(I)Z"⟩
def mn_159 : MethodName := ⟨"ArmsHouse$Text", "want", "(I)V"⟩
def mn_160 : MethodName := ⟨"ArmsHouse$Text", "after", "()I"⟩
def mn_161 : MethodName := ⟨"ArmsHouse$Text", "now", "()I"⟩
def mn_162 : MethodName := ⟨"ArmsHouse$Arms", "<init>", "(LArmsHouse$Field;I)V"⟩
def mn_163 : MethodName := ⟨"ArmsHouse$Arms", "twin", "()LArmsHouse$Arms;"⟩
def mn_164 : MethodName := ⟨"ArmsHouse$Field", "<init>", "(IIIII)V"⟩
def mn_165 : MethodName := ⟨"ArmsHouse$Field", "kind", "()I"⟩
def mn_166 : MethodName := ⟨"ArmsHouse$Field", "twin", "()LArmsHouse$Field;"⟩
def mn_167 : MethodName := ⟨"ArmsHouse$Field", "told", "()LArmsHouse$Whole;"⟩
def mn_168 : MethodName := ⟨"ArmsHouse$Field", "tincture", "()I"⟩
def mn_169 : MethodName := ⟨"ArmsHouse$Whole", "<init>", "()V"⟩
def mn_170 : MethodName := ⟨"ArmsHouse$Layer", "<init>", "()V"⟩
def mn_171 : MethodName := ⟨"ArmsHouse$Layer", "isInPart", "()Z"⟩
def mn_172 : MethodName := ⟨"ArmsHouse$Layer", "twin", "()LArmsHouse$Layer;"⟩
def mn_173 : MethodName := ⟨"ArmsHouse$Layer", "tinctOf", "(LArmsHouse$Tinged;)LArmsHouse$Whole;"⟩
def mn_174 : MethodName := ⟨"ArmsHouse$Ordinary", "<init>", "(III)V"⟩
def mn_175 : MethodName := ⟨"ArmsHouseModel", "feed", "(JI)I"⟩
def mn_176 : MethodName := ⟨"ArmsHouseModel", "cut", "(I)I"⟩
def mn_177 : MethodName := ⟨"ArmsHouseModel", "turn", "()I"⟩
def mn_178 : MethodName := ⟨"ArmsHouseModel", "out", "(I)I"⟩
def mn_179 : MethodName := ⟨"ArmsHouseModel", "<init>", "()V"⟩
def mn_180 : MethodName := ⟨"ArmsHouseModel", "rankAll", "()V"⟩
def mn_181 : MethodName := ⟨"ArmsHouseModel", "make", "(I)V"⟩
def mn_182 : MethodName := ⟨"ArmsHouseModel", "blankAll", "(I)V"⟩
def mn_183 : MethodName := ⟨"ArmsHouseModel", "blank", "(II)V"⟩
def mn_184 : MethodName := ⟨"ArmsHouseModel", "setLayer", "(IIII)V"⟩
def mn_185 : MethodName := ⟨"ArmsHouseModel", "breachOf", "(II)I"⟩
def mn_186 : MethodName := ⟨"ArmsHouseModel", "tell", "(II)I"⟩
def mn_187 : MethodName := ⟨"ArmsHouseModel", "isBreach", "(III)Z"⟩
def mn_188 : MethodName := ⟨"ArmsHouseModel", "ofLayer", "(III)I"⟩
def mn_189 : MethodName := ⟨"ArmsHouseModel", "fieldKind", "(I)I"⟩
def mn_190 : MethodName := ⟨"ArmsHouseModel", "kindOf", "(I)I"⟩
def mn_191 : MethodName := ⟨"ArmsHouseModel", "blazon", "()I"⟩
def mn_192 : MethodName := ⟨"ArmsHouseModel", "read", "()V"⟩
def mn_193 : MethodName := ⟨"ArmsHouseModel", "start", "()V"⟩
def mn_194 : MethodName := ⟨"ArmsHouseModel", "next", "()V"⟩
def mn_195 : MethodName := ⟨"ArmsHouseModel", "isLetter", "(I)Z"⟩
def mn_196 : MethodName := ⟨"ArmsHouseModel", "isDigit", "(I)Z"⟩
def mn_197 : MethodName := ⟨"ArmsHouseModel", "field", "()V"⟩
def mn_198 : MethodName := ⟨"ArmsHouseModel", "isWord", "(J)Z"⟩
def mn_199 : MethodName := ⟨"ArmsHouseModel", "go", "()V"⟩
def mn_200 : MethodName := ⟨"ArmsHouseModel", "wordOf", "(J[JI)I"⟩
def mn_201 : MethodName := ⟨"ArmsHouseModel", "fails", "(I)V"⟩
def mn_202 : MethodName := ⟨"ArmsHouseModel", "line", "()I"⟩
def mn_203 : MethodName := ⟨"ArmsHouseModel", "two", "()V"⟩
def mn_204 : MethodName := ⟨"ArmsHouseModel", "oneOf", "([JI)I"⟩
def mn_205 : MethodName := ⟨"ArmsHouseModel", "word", "(J)V"⟩
def mn_206 : MethodName := ⟨"ArmsHouseModel", "isSign", "(I)Z"⟩
def mn_207 : MethodName := ⟨"ArmsHouseModel", "number", "()V"⟩
def mn_208 : MethodName := ⟨"ArmsHouseModel", "layer", "(I)V"⟩
def mn_209 : MethodName := ⟨"ArmsHouseModel", "ordinary", "(I)V"⟩
def mn_210 : MethodName := ⟨"ArmsHouseModel", "group", "(II)V"⟩
def mn_211 : MethodName := ⟨"ArmsHouseModel", "thing", "(II)V"⟩
def mn_212 : MethodName := ⟨"ArmsHouseModel", "firstAttitude", "(I)I"⟩
def mn_213 : MethodName := ⟨"ArmsHouseModel", "isOneOf", "([JI)Z"⟩
def mn_214 : MethodName := ⟨"ArmsHouseModel", "may", "(II)Z"⟩
def mn_215 : MethodName := ⟨"ArmsHouseModel", "partOf", "(I)V"⟩
def mn_216 : MethodName := ⟨"ArmsHouseModel", "mean", "()V"⟩
def mn_217 : MethodName := ⟨"ArmsHouseModel", "isPart", "(II)Z"⟩
def mn_218 : MethodName := ⟨"ArmsHouseModel", "keep", "()I"⟩
def mn_219 : MethodName := ⟨"ArmsHouseModel", "copy", "(II)V"⟩
def mn_220 : MethodName := ⟨"ArmsHouseModel", "fault", "()I"⟩
def mn_221 : MethodName := ⟨"ArmsHouseModel", "one", "(II)I"⟩
def mn_222 : MethodName := ⟨"ArmsHouseModel", "has", "(I)Z"⟩
def mn_223 : MethodName := ⟨"ArmsHouseModel", "areOne", "(II)Z"⟩
def mn_224 : MethodName := ⟨"ArmsHouseModel", "layers", "(I)I"⟩
def mn_225 : MethodName := ⟨"ArmsHouseModel", "meaning", "(III)I"⟩
def mn_226 : MethodName := ⟨"ArmsHouseModel", "write", "(I)I"⟩
def mn_227 : MethodName := ⟨"ArmsHouseModel", "sayField", "(I)V"⟩
def mn_228 : MethodName := ⟨"ArmsHouseModel", "say", "(J)V"⟩
def mn_229 : MethodName := ⟨"ArmsHouseModel", "put", "(I)V"⟩
def mn_230 : MethodName := ⟨"ArmsHouseModel", "sayLine", "(I)V"⟩
def mn_231 : MethodName := ⟨"ArmsHouseModel", "sayNumber", "(I)V"⟩
def mn_232 : MethodName := ⟨"ArmsHouseModel", "sayGroup", "(II)V"⟩
def mn_233 : MethodName := ⟨"ArmsHouseModel", "breaches", "(I)I"⟩
def mn_234 : MethodName := ⟨"ArmsHouseModel", "breachMany", "(I)I"⟩
def mn_235 : MethodName := ⟨"ArmsHouseModel", "breach", "(II)I"⟩
def mn_236 : MethodName := ⟨"ArmsHouseModel", "dot", "(III)I"⟩
def mn_237 : MethodName := ⟨"ArmsHouseModel", "draw", "(I)V"⟩
def mn_238 : MethodName := ⟨"ArmsHouseModel", "isShield", "(II)Z"⟩
def mn_239 : MethodName := ⟨"ArmsHouseModel", "isFirst", "(IIIII)Z"⟩
def mn_240 : MethodName := ⟨"ArmsHouseModel", "bends", "(II)I"⟩
def mn_241 : MethodName := ⟨"ArmsHouseModel", "much", "(I)I"⟩
def mn_242 : MethodName := ⟨"ArmsHouseModel", "drawLayer", "(II)V"⟩
def mn_243 : MethodName := ⟨"ArmsHouseModel", "isOn", "(IIII)Z"⟩
def mn_244 : MethodName := ⟨"ArmsHouseModel", "isEdge", "(II)Z"⟩
def mn_245 : MethodName := ⟨"ArmsHouseModel", "seats", "(II)V"⟩
def mn_246 : MethodName := ⟨"ArmsHouseModel", "boxed", "(IIIII)V"⟩
def mn_247 : MethodName := ⟨"ArmsHouseModel", "rowOf", "(II)I"⟩
def mn_248 : MethodName := ⟨"ArmsHouseModel", "fits", "(III)Z"⟩
def mn_249 : MethodName := ⟨"ArmsHouseModel", "isIn", "(IIII)Z"⟩
def mn_250 : MethodName := ⟨"ArmsHouseModel", "dots", "(II)I"⟩
def mn_251 : MethodName := ⟨"ArmsHouseModel", "size", "(II)I"⟩
def mn_252 : MethodName := ⟨"ArmsHouseModel", "person", "(ZIIII)I"⟩
def mn_253 : MethodName := ⟨"ArmsHouseModel", "isPerson", "(I)Z"⟩
def mn_254 : MethodName := ⟨"ArmsHouseModel", "isDay", "(I)Z"⟩
def mn_255 : MethodName := ⟨"ArmsHouseModel", "dies", "(II)I"⟩
def mn_256 : MethodName := ⟨"ArmsHouseModel", "quarter", "(III)I"⟩
def mn_257 : MethodName := ⟨"ArmsHouseModel", "quartersOf", "(II)V"⟩
def mn_258 : MethodName := ⟨"ArmsHouseModel", "gather", "(II)V"⟩
def mn_259 : MethodName := ⟨"ArmsHouseModel", "isHeiress", "(II)Z"⟩
def mn_260 : MethodName := ⟨"ArmsHouseModel", "mark", "(III)I"⟩
def mn_261 : MethodName := ⟨"ArmsHouseModel", "forefather", "(II)I"⟩
def mn_262 : MethodName := ⟨"ArmsHouseModel", "markOf", "(II)I"⟩
def mn_263 : MethodName := ⟨"ArmsHouseModel", "lives", "(II)Z"⟩
def mn_264 : MethodName := ⟨"ArmsHouseModel", "clashes", "(I)I"⟩
def mn_265 : MethodName := ⟨"ArmsHouseModel", "clashOf", "(II)I"⟩
def mn_266 : MethodName := ⟨"ArmsHouseModel", "areClash", "(III)Z"⟩
def mn_267 : MethodName := ⟨"ArmsHouseModel", "clash", "(II)I"⟩
def mn_268 : MethodName := ⟨"ArmsHouseModel", "enter", "(II)I"⟩
def mn_269 : MethodName := ⟨"ArmsHouseModel", "strike", "(II)I"⟩
def mn_270 : MethodName := ⟨"ArmsHouseModel", "points", "(II)I"⟩
def mn_271 : MethodName := ⟨"ArmsHouseModel", "pointsOf", "(II)I"⟩
def mn_272 : MethodName := ⟨"ArmsHouseModel", "unlike", "(II)I"⟩
def mn_273 : MethodName := ⟨"ArmsHouseModel", "layerPoints", "(III)I"⟩
def mn_274 : MethodName := ⟨"ArmsHouseModel", "conflicts", "(II)I"⟩
def mn_275 : MethodName := ⟨"ArmsHouseModel", "conflictOf", "(III)I"⟩
def mn_276 : MethodName := ⟨"ArmsHouseModel", "stands", "(II)Z"⟩
def mn_277 : MethodName := ⟨"ArmsHouseModel", "conflict", "(III)I"⟩
def mn_278 : MethodName := ⟨"ArmsHouseModel", "clear", "(II)I"⟩
def mn_279 : MethodName := ⟨"ArmsHouseModel", "isClear", "(II)Z"⟩
def mn_280 : MethodName := ⟨"ArmsHouseModel", "spotsOf", "(I)V"⟩
def mn_281 : MethodName := ⟨"ArmsHouseModel", "changes", "(II)Z"⟩
def mn_282 : MethodName := ⟨"ArmsHouseModel", "clause", "()I"⟩
def mn_283 : MethodName := ⟨"ArmsHouseModel", "either", "()I"⟩
def mn_284 : MethodName := ⟨"ArmsHouseModel", "deeper", "(Z)V"⟩
def mn_285 : MethodName := ⟨"ArmsHouseModel", "begins", "(Z)Z"⟩
def mn_286 : MethodName := ⟨"ArmsHouseModel", "both", "()I"⟩
def mn_287 : MethodName := ⟨"ArmsHouseModel", "neither", "()I"⟩
def mn_288 : MethodName := ⟨"ArmsHouseModel", "countPart", "()V"⟩
def mn_289 : MethodName := ⟨"ArmsHouseModel", "part", "(IIII)I"⟩
def mn_290 : MethodName := ⟨"ArmsHouseModel", "compared", "()I"⟩
def mn_291 : MethodName := ⟨"ArmsHouseModel", "sums", "()I"⟩
def mn_292 : MethodName := ⟨"ArmsHouseModel", "products", "()I"⟩
def mn_293 : MethodName := ⟨"ArmsHouseModel", "unit", "()I"⟩
def mn_294 : MethodName := ⟨"ArmsHouseModel", "sign", "(I)V"⟩
def mn_295 : MethodName := ⟨"ArmsHouseModel", "plain", "(I)I"⟩
def mn_296 : MethodName := ⟨"ArmsHouseModel", "signed", "(IIII)I"⟩
def mn_297 : MethodName := ⟨"ArmsHouseModel", "ask", "(II)I"⟩
def mn_298 : MethodName := ⟨"ArmsHouseModel", "tells", "(II)I"⟩
def mn_299 : MethodName := ⟨"ArmsHouseModel", "work", "(I)V"⟩
def mn_300 : MethodName := ⟨"ArmsHouseModel", "workSign", "(II)V"⟩
def mn_301 : MethodName := ⟨"ArmsHouseModel", "whole", "(J)V"⟩
def mn_302 : MethodName := ⟨"ArmsHouseModel", "fail", "(II)V"⟩
def mn_303 : MethodName := ⟨"ArmsHouseModel", "call", "(II)V"⟩
def mn_304 : MethodName := ⟨"ArmsHouseModel", "maybe", "(II)V"⟩
def mn_305 : MethodName := ⟨"ArmsHouseModel", "only", "(I)V"⟩
def mn_306 : MethodName := ⟨"ArmsHouseModel", "value", "()J"⟩
def mn_307 : MethodName := ⟨"ArmsHouseModel", "failedAt", "()I"⟩
def mn_308 : MethodName := ⟨"ArmsHouseModel", "family", "(I)I"⟩
def mn_309 : MethodName := ⟨"ArmsHouseModel", "at", "(I)I"⟩
def mn_310 : MethodName := ⟨"ArmsHouseModel", "rank", "(I)I"⟩
def mn_311 : MethodName := ⟨"ArmsHouseModel", "find", "(IIII)I"⟩
def mn_312 : MethodName := ⟨"ArmsHouseModel", "isClause", "(I)Z"⟩
def mn_313 : MethodName := ⟨"ArmsHouseModel", "isMany", "(I)Z"⟩
def mn_314 : MethodName := ⟨"ArmsHouseModel", "isYes", "(II)Z"⟩
def mn_315 : MethodName := ⟨"ArmsHouseModel", "tally", "(III)I"⟩
def mn_316 : MethodName := ⟨"ArmsHouseModel", "show", "(III)I"⟩
def mn_317 : MethodName := ⟨"ArmsHouseModel", "least", "()I"⟩
def mn_318 : MethodName := ⟨"ArmsHouseModel", "count", "(I)I"⟩
def mn_319 : MethodName := ⟨"ArmsHouse$Group", "<init>", "(IIII)V"⟩
def mn_320 : MethodName := ⟨"ArmsHouse$Person", "<init>", "()V"⟩
def mn_321 : MethodName := ⟨"ArmsHouse$Person", "livesOn", "(I)Z"⟩
def mn_322 : MethodName := ⟨"ArmsHouse$Node", "<init>", "(LArmsHouse;I)V"⟩
def mn_323 : MethodName := ⟨"ArmsHouse$Node", "tell", "(LArmsHouse$Arms;)Ljava/lang/Object;"⟩
def mn_324 : MethodName := ⟨"ArmsHouse$Node", "gives", "(J)LArmsHouse$Whole;"⟩
def mn_325 : MethodName := ⟨"ArmsHouse$Node", "whole", "(Ljava/lang/Object;)J"⟩
def mn_326 : MethodName := ⟨"ArmsHouse$Node", "truth", "(Z)LArmsHouse$Whole;"⟩
def mn_327 : MethodName := ⟨"ArmsHouse$One", "<init>", "(LArmsHouse;IILArmsHouse$Node;)V"⟩
def mn_328 : MethodName := ⟨"ArmsHouse$One", "index", "(J)I"⟩
def mn_329 : MethodName := ⟨"ArmsHouse$One", "there", "(LArmsHouse$Group;)LArmsHouse$Group;"⟩
def mn_330 : MethodName := ⟨"ArmsHouse$One", "ofSecond", "(LArmsHouse$Field;)LArmsHouse$Whole;"⟩
def mn_331 : MethodName := ⟨"ArmsHouse$One", "ofPart", "(LArmsHouse$Layer;)LArmsHouse$Whole;"⟩
def mn_332 : MethodName := ⟨"ArmsHouse$Number", "<init>", "(LArmsHouse;IJ)V"⟩
def mn_333 : MethodName := ⟨"ArmsHouse$Plain", "<init>", "(LArmsHouse;II)V"⟩
def mn_334 : MethodName := ⟨"ArmsHouse$Try", "<init>", "(LArmsHouse;ILArmsHouse$Node;LArmsHouse$Node;)V"⟩
def mn_335 : MethodName := ⟨"ArmsHouse$Two", "<init>", "(LArmsHouse;IILArmsHouse$Node;LArmsHouse$Node;)V"⟩
def am_mn (y : Nat) : MethodName := (bif Nat.ble y 171 then (bif Nat.ble y 89 then (bif Nat.ble y 48 then (bif Nat.ble y 27 then (bif Nat.ble y 10 then (bif Nat.ble y 5 then (bif Nat.ble y 2 then (bif Nat.ble y 1 then mn_1 else mn_2) else (bif Nat.ble y 3 then mn_3 else (bif Nat.ble y 4 then mn_4 else mn_5))) else (bif Nat.ble y 7 then (bif Nat.ble y 6 then mn_6 else mn_7) else (bif Nat.ble y 8 then mn_8 else (bif Nat.ble y 9 then mn_9 else mn_10)))) else (bif Nat.ble y 22 then (bif Nat.ble y 12 then (bif Nat.ble y 11 then mn_11 else mn_12) else (bif Nat.ble y 20 then mn_20 else (bif Nat.ble y 21 then mn_21 else mn_22))) else (bif Nat.ble y 24 then (bif Nat.ble y 23 then mn_23 else mn_24) else (bif Nat.ble y 25 then mn_25 else (bif Nat.ble y 26 then mn_26 else mn_27))))) else (bif Nat.ble y 38 then (bif Nat.ble y 33 then (bif Nat.ble y 29 then (bif Nat.ble y 28 then mn_28 else mn_29) else (bif Nat.ble y 31 then mn_31 else (bif Nat.ble y 32 then mn_32 else mn_33))) else (bif Nat.ble y 35 then (bif Nat.ble y 34 then mn_34 else mn_35) else (bif Nat.ble y 36 then mn_36 else (bif Nat.ble y 37 then mn_37 else mn_38)))) else (bif Nat.ble y 43 then (bif Nat.ble y 40 then (bif Nat.ble y 39 then mn_39 else mn_40) else (bif Nat.ble y 41 then mn_41 else (bif Nat.ble y 42 then mn_42 else mn_43))) else (bif Nat.ble y 45 then (bif Nat.ble y 44 then mn_44 else mn_45) else (bif Nat.ble y 46 then mn_46 else (bif Nat.ble y 47 then mn_47 else mn_48)))))) else (bif Nat.ble y 68 then (bif Nat.ble y 58 then (bif Nat.ble y 53 then (bif Nat.ble y 50 then (bif Nat.ble y 49 then mn_49 else mn_50) else (bif Nat.ble y 51 then mn_51 else (bif Nat.ble y 52 then mn_52 else mn_53))) else (bif Nat.ble y 55 then (bif Nat.ble y 54 then mn_54 else mn_55) else (bif Nat.ble y 56 then mn_56 else (bif Nat.ble y 57 then mn_57 else mn_58)))) else (bif Nat.ble y 63 then (bif Nat.ble y 60 then (bif Nat.ble y 59 then mn_59 else mn_60) else (bif Nat.ble y 61 then mn_61 else (bif Nat.ble y 62 then mn_62 else mn_63))) else (bif Nat.ble y 65 then (bif Nat.ble y 64 then mn_64 else mn_65) else (bif Nat.ble y 66 then mn_66 else (bif Nat.ble y 67 then mn_67 else mn_68))))) else (bif Nat.ble y 78 then (bif Nat.ble y 73 then (bif Nat.ble y 70 then (bif Nat.ble y 69 then mn_69 else mn_70) else (bif Nat.ble y 71 then mn_71 else (bif Nat.ble y 72 then mn_72 else mn_73))) else (bif Nat.ble y 75 then (bif Nat.ble y 74 then mn_74 else mn_75) else (bif Nat.ble y 76 then mn_76 else (bif Nat.ble y 77 then mn_77 else mn_78)))) else (bif Nat.ble y 83 then (bif Nat.ble y 80 then (bif Nat.ble y 79 then mn_79 else mn_80) else (bif Nat.ble y 81 then mn_81 else (bif Nat.ble y 82 then mn_82 else mn_83))) else (bif Nat.ble y 86 then (bif Nat.ble y 84 then mn_84 else (bif Nat.ble y 85 then mn_85 else mn_86)) else (bif Nat.ble y 87 then mn_87 else (bif Nat.ble y 88 then mn_88 else mn_89))))))) else (bif Nat.ble y 130 then (bif Nat.ble y 109 then (bif Nat.ble y 99 then (bif Nat.ble y 94 then (bif Nat.ble y 91 then (bif Nat.ble y 90 then mn_90 else mn_91) else (bif Nat.ble y 92 then mn_92 else (bif Nat.ble y 93 then mn_93 else mn_94))) else (bif Nat.ble y 96 then (bif Nat.ble y 95 then mn_95 else mn_96) else (bif Nat.ble y 97 then mn_97 else (bif Nat.ble y 98 then mn_98 else mn_99)))) else (bif Nat.ble y 104 then (bif Nat.ble y 101 then (bif Nat.ble y 100 then mn_100 else mn_101) else (bif Nat.ble y 102 then mn_102 else (bif Nat.ble y 103 then mn_103 else mn_104))) else (bif Nat.ble y 106 then (bif Nat.ble y 105 then mn_105 else mn_106) else (bif Nat.ble y 107 then mn_107 else (bif Nat.ble y 108 then mn_108 else mn_109))))) else (bif Nat.ble y 119 then (bif Nat.ble y 114 then (bif Nat.ble y 111 then (bif Nat.ble y 110 then mn_110 else mn_111) else (bif Nat.ble y 112 then mn_112 else (bif Nat.ble y 113 then mn_113 else mn_114))) else (bif Nat.ble y 116 then (bif Nat.ble y 115 then mn_115 else mn_116) else (bif Nat.ble y 117 then mn_117 else (bif Nat.ble y 118 then mn_118 else mn_119)))) else (bif Nat.ble y 124 then (bif Nat.ble y 121 then (bif Nat.ble y 120 then mn_120 else mn_121) else (bif Nat.ble y 122 then mn_122 else (bif Nat.ble y 123 then mn_123 else mn_124))) else (bif Nat.ble y 127 then (bif Nat.ble y 125 then mn_125 else (bif Nat.ble y 126 then mn_126 else mn_127)) else (bif Nat.ble y 128 then mn_128 else (bif Nat.ble y 129 then mn_129 else mn_130)))))) else (bif Nat.ble y 150 then (bif Nat.ble y 140 then (bif Nat.ble y 135 then (bif Nat.ble y 132 then (bif Nat.ble y 131 then mn_131 else mn_132) else (bif Nat.ble y 133 then mn_133 else (bif Nat.ble y 134 then mn_134 else mn_135))) else (bif Nat.ble y 137 then (bif Nat.ble y 136 then mn_136 else mn_137) else (bif Nat.ble y 138 then mn_138 else (bif Nat.ble y 139 then mn_139 else mn_140)))) else (bif Nat.ble y 145 then (bif Nat.ble y 142 then (bif Nat.ble y 141 then mn_141 else mn_142) else (bif Nat.ble y 143 then mn_143 else (bif Nat.ble y 144 then mn_144 else mn_145))) else (bif Nat.ble y 147 then (bif Nat.ble y 146 then mn_146 else mn_147) else (bif Nat.ble y 148 then mn_148 else (bif Nat.ble y 149 then mn_149 else mn_150))))) else (bif Nat.ble y 160 then (bif Nat.ble y 155 then (bif Nat.ble y 152 then (bif Nat.ble y 151 then mn_151 else mn_152) else (bif Nat.ble y 153 then mn_153 else (bif Nat.ble y 154 then mn_154 else mn_155))) else (bif Nat.ble y 157 then (bif Nat.ble y 156 then mn_156 else mn_157) else (bif Nat.ble y 158 then mn_158 else (bif Nat.ble y 159 then mn_159 else mn_160)))) else (bif Nat.ble y 165 then (bif Nat.ble y 162 then (bif Nat.ble y 161 then mn_161 else mn_162) else (bif Nat.ble y 163 then mn_163 else (bif Nat.ble y 164 then mn_164 else mn_165))) else (bif Nat.ble y 168 then (bif Nat.ble y 166 then mn_166 else (bif Nat.ble y 167 then mn_167 else mn_168)) else (bif Nat.ble y 169 then mn_169 else (bif Nat.ble y 170 then mn_170 else mn_171)))))))) else (bif Nat.ble y 253 then (bif Nat.ble y 212 then (bif Nat.ble y 191 then (bif Nat.ble y 181 then (bif Nat.ble y 176 then (bif Nat.ble y 173 then (bif Nat.ble y 172 then mn_172 else mn_173) else (bif Nat.ble y 174 then mn_174 else (bif Nat.ble y 175 then mn_175 else mn_176))) else (bif Nat.ble y 178 then (bif Nat.ble y 177 then mn_177 else mn_178) else (bif Nat.ble y 179 then mn_179 else (bif Nat.ble y 180 then mn_180 else mn_181)))) else (bif Nat.ble y 186 then (bif Nat.ble y 183 then (bif Nat.ble y 182 then mn_182 else mn_183) else (bif Nat.ble y 184 then mn_184 else (bif Nat.ble y 185 then mn_185 else mn_186))) else (bif Nat.ble y 188 then (bif Nat.ble y 187 then mn_187 else mn_188) else (bif Nat.ble y 189 then mn_189 else (bif Nat.ble y 190 then mn_190 else mn_191))))) else (bif Nat.ble y 201 then (bif Nat.ble y 196 then (bif Nat.ble y 193 then (bif Nat.ble y 192 then mn_192 else mn_193) else (bif Nat.ble y 194 then mn_194 else (bif Nat.ble y 195 then mn_195 else mn_196))) else (bif Nat.ble y 198 then (bif Nat.ble y 197 then mn_197 else mn_198) else (bif Nat.ble y 199 then mn_199 else (bif Nat.ble y 200 then mn_200 else mn_201)))) else (bif Nat.ble y 206 then (bif Nat.ble y 203 then (bif Nat.ble y 202 then mn_202 else mn_203) else (bif Nat.ble y 204 then mn_204 else (bif Nat.ble y 205 then mn_205 else mn_206))) else (bif Nat.ble y 209 then (bif Nat.ble y 207 then mn_207 else (bif Nat.ble y 208 then mn_208 else mn_209)) else (bif Nat.ble y 210 then mn_210 else (bif Nat.ble y 211 then mn_211 else mn_212)))))) else (bif Nat.ble y 232 then (bif Nat.ble y 222 then (bif Nat.ble y 217 then (bif Nat.ble y 214 then (bif Nat.ble y 213 then mn_213 else mn_214) else (bif Nat.ble y 215 then mn_215 else (bif Nat.ble y 216 then mn_216 else mn_217))) else (bif Nat.ble y 219 then (bif Nat.ble y 218 then mn_218 else mn_219) else (bif Nat.ble y 220 then mn_220 else (bif Nat.ble y 221 then mn_221 else mn_222)))) else (bif Nat.ble y 227 then (bif Nat.ble y 224 then (bif Nat.ble y 223 then mn_223 else mn_224) else (bif Nat.ble y 225 then mn_225 else (bif Nat.ble y 226 then mn_226 else mn_227))) else (bif Nat.ble y 229 then (bif Nat.ble y 228 then mn_228 else mn_229) else (bif Nat.ble y 230 then mn_230 else (bif Nat.ble y 231 then mn_231 else mn_232))))) else (bif Nat.ble y 242 then (bif Nat.ble y 237 then (bif Nat.ble y 234 then (bif Nat.ble y 233 then mn_233 else mn_234) else (bif Nat.ble y 235 then mn_235 else (bif Nat.ble y 236 then mn_236 else mn_237))) else (bif Nat.ble y 239 then (bif Nat.ble y 238 then mn_238 else mn_239) else (bif Nat.ble y 240 then mn_240 else (bif Nat.ble y 241 then mn_241 else mn_242)))) else (bif Nat.ble y 247 then (bif Nat.ble y 244 then (bif Nat.ble y 243 then mn_243 else mn_244) else (bif Nat.ble y 245 then mn_245 else (bif Nat.ble y 246 then mn_246 else mn_247))) else (bif Nat.ble y 250 then (bif Nat.ble y 248 then mn_248 else (bif Nat.ble y 249 then mn_249 else mn_250)) else (bif Nat.ble y 251 then mn_251 else (bif Nat.ble y 252 then mn_252 else mn_253))))))) else (bif Nat.ble y 294 then (bif Nat.ble y 273 then (bif Nat.ble y 263 then (bif Nat.ble y 258 then (bif Nat.ble y 255 then (bif Nat.ble y 254 then mn_254 else mn_255) else (bif Nat.ble y 256 then mn_256 else (bif Nat.ble y 257 then mn_257 else mn_258))) else (bif Nat.ble y 260 then (bif Nat.ble y 259 then mn_259 else mn_260) else (bif Nat.ble y 261 then mn_261 else (bif Nat.ble y 262 then mn_262 else mn_263)))) else (bif Nat.ble y 268 then (bif Nat.ble y 265 then (bif Nat.ble y 264 then mn_264 else mn_265) else (bif Nat.ble y 266 then mn_266 else (bif Nat.ble y 267 then mn_267 else mn_268))) else (bif Nat.ble y 270 then (bif Nat.ble y 269 then mn_269 else mn_270) else (bif Nat.ble y 271 then mn_271 else (bif Nat.ble y 272 then mn_272 else mn_273))))) else (bif Nat.ble y 283 then (bif Nat.ble y 278 then (bif Nat.ble y 275 then (bif Nat.ble y 274 then mn_274 else mn_275) else (bif Nat.ble y 276 then mn_276 else (bif Nat.ble y 277 then mn_277 else mn_278))) else (bif Nat.ble y 280 then (bif Nat.ble y 279 then mn_279 else mn_280) else (bif Nat.ble y 281 then mn_281 else (bif Nat.ble y 282 then mn_282 else mn_283)))) else (bif Nat.ble y 288 then (bif Nat.ble y 285 then (bif Nat.ble y 284 then mn_284 else mn_285) else (bif Nat.ble y 286 then mn_286 else (bif Nat.ble y 287 then mn_287 else mn_288))) else (bif Nat.ble y 291 then (bif Nat.ble y 289 then mn_289 else (bif Nat.ble y 290 then mn_290 else mn_291)) else (bif Nat.ble y 292 then mn_292 else (bif Nat.ble y 293 then mn_293 else mn_294)))))) else (bif Nat.ble y 314 then (bif Nat.ble y 304 then (bif Nat.ble y 299 then (bif Nat.ble y 296 then (bif Nat.ble y 295 then mn_295 else mn_296) else (bif Nat.ble y 297 then mn_297 else (bif Nat.ble y 298 then mn_298 else mn_299))) else (bif Nat.ble y 301 then (bif Nat.ble y 300 then mn_300 else mn_301) else (bif Nat.ble y 302 then mn_302 else (bif Nat.ble y 303 then mn_303 else mn_304)))) else (bif Nat.ble y 309 then (bif Nat.ble y 306 then (bif Nat.ble y 305 then mn_305 else mn_306) else (bif Nat.ble y 307 then mn_307 else (bif Nat.ble y 308 then mn_308 else mn_309))) else (bif Nat.ble y 311 then (bif Nat.ble y 310 then mn_310 else mn_311) else (bif Nat.ble y 312 then mn_312 else (bif Nat.ble y 313 then mn_313 else mn_314))))) else (bif Nat.ble y 324 then (bif Nat.ble y 319 then (bif Nat.ble y 316 then (bif Nat.ble y 315 then mn_315 else mn_316) else (bif Nat.ble y 317 then mn_317 else (bif Nat.ble y 318 then mn_318 else mn_319))) else (bif Nat.ble y 321 then (bif Nat.ble y 320 then mn_320 else mn_321) else (bif Nat.ble y 322 then mn_322 else (bif Nat.ble y 323 then mn_323 else mn_324)))) else (bif Nat.ble y 329 then (bif Nat.ble y 326 then (bif Nat.ble y 325 then mn_325 else mn_326) else (bif Nat.ble y 327 then mn_327 else (bif Nat.ble y 328 then mn_328 else mn_329))) else (bif Nat.ble y 332 then (bif Nat.ble y 330 then mn_330 else (bif Nat.ble y 331 then mn_331 else mn_332)) else (bif Nat.ble y 333 then mn_333 else (bif Nat.ble y 334 then mn_334 else mn_335)))))))))
def am_bt (y : Nat) : ByteArray := (bif Nat.ble y 171 then (bif Nat.ble y 89 then (bif Nat.ble y 48 then (bif Nat.ble y 27 then (bif Nat.ble y 10 then (bif Nat.ble y 5 then (bif Nat.ble y 2 then (bif Nat.ble y 1 then prog_9_method_2_code else prog_8_method_2_code) else (bif Nat.ble y 3 then prog_13_method_2_code else (bif Nat.ble y 4 then prog_16_method_2_code else prog_17_method_2_code))) else (bif Nat.ble y 7 then (bif Nat.ble y 6 then prog_4_method_5_code else prog_6_method_3_code) else (bif Nat.ble y 8 then prog_10_method_3_code else (bif Nat.ble y 9 then prog_11_method_1_code else prog_5_method_1_code)))) else (bif Nat.ble y 22 then (bif Nat.ble y 12 then (bif Nat.ble y 11 then prog_11_method_3_code else prog_5_method_3_code) else (bif Nat.ble y 20 then prog_29_method_54_code else (bif Nat.ble y 21 then prog_29_method_152_code else prog_29_method_56_code))) else (bif Nat.ble y 24 then (bif Nat.ble y 23 then prog_29_method_154_code else prog_29_method_155_code) else (bif Nat.ble y 25 then prog_30_method_2_code else (bif Nat.ble y 26 then prog_34_method_11_code else prog_26_method_65_code))))) else (bif Nat.ble y 38 then (bif Nat.ble y 33 then (bif Nat.ble y 29 then (bif Nat.ble y 28 then prog_26_method_50_code else prog_26_method_59_code) else (bif Nat.ble y 31 then prog_1_method_37_code else (bif Nat.ble y 32 then prog_1_method_106_code else prog_1_method_107_code))) else (bif Nat.ble y 35 then (bif Nat.ble y 34 then prog_1_method_21_code else prog_1_method_20_code) else (bif Nat.ble y 36 then prog_1_method_1_code else (bif Nat.ble y 37 then prog_1_method_19_code else prog_1_method_42_code)))) else (bif Nat.ble y 43 then (bif Nat.ble y 40 then (bif Nat.ble y 39 then prog_1_method_38_code else prog_1_method_43_code) else (bif Nat.ble y 41 then prog_1_method_44_code else (bif Nat.ble y 42 then prog_1_method_45_code else prog_1_method_49_code))) else (bif Nat.ble y 45 then (bif Nat.ble y 44 then prog_1_method_46_code else prog_1_method_10_code) else (bif Nat.ble y 46 then prog_1_method_5_code else (bif Nat.ble y 47 then prog_1_method_4_code else prog_1_method_6_code)))))) else (bif Nat.ble y 68 then (bif Nat.ble y 58 then (bif Nat.ble y 53 then (bif Nat.ble y 50 then (bif Nat.ble y 49 then prog_1_method_9_code else prog_1_method_8_code) else (bif Nat.ble y 51 then prog_1_method_7_code else (bif Nat.ble y 52 then prog_1_method_2_code else prog_1_method_3_code))) else (bif Nat.ble y 55 then (bif Nat.ble y 54 then prog_1_method_11_code else prog_1_method_47_code) else (bif Nat.ble y 56 then prog_1_method_48_code else (bif Nat.ble y 57 then prog_1_method_50_code else prog_1_method_51_code)))) else (bif Nat.ble y 63 then (bif Nat.ble y 60 then (bif Nat.ble y 59 then prog_1_method_41_code else prog_1_method_40_code) else (bif Nat.ble y 61 then prog_1_method_36_code else (bif Nat.ble y 62 then prog_1_method_34_code else prog_1_method_35_code))) else (bif Nat.ble y 65 then (bif Nat.ble y 64 then prog_1_method_52_code else prog_1_method_53_code) else (bif Nat.ble y 66 then prog_1_method_54_code else (bif Nat.ble y 67 then prog_1_method_55_code else prog_1_method_56_code))))) else (bif Nat.ble y 78 then (bif Nat.ble y 73 then (bif Nat.ble y 70 then (bif Nat.ble y 69 then prog_1_method_17_code else prog_1_method_13_code) else (bif Nat.ble y 71 then prog_1_method_12_code else (bif Nat.ble y 72 then prog_1_method_15_code else prog_1_method_14_code))) else (bif Nat.ble y 75 then (bif Nat.ble y 74 then prog_1_method_18_code else prog_1_method_16_code) else (bif Nat.ble y 76 then prog_1_method_57_code else (bif Nat.ble y 77 then prog_1_method_58_code else prog_1_method_59_code)))) else (bif Nat.ble y 83 then (bif Nat.ble y 80 then (bif Nat.ble y 79 then prog_1_method_26_code else prog_1_method_23_code) else (bif Nat.ble y 81 then prog_1_method_24_code else (bif Nat.ble y 82 then prog_1_method_22_code else prog_1_method_27_code))) else (bif Nat.ble y 86 then (bif Nat.ble y 84 then prog_1_method_25_code else (bif Nat.ble y 85 then prog_1_method_28_code else prog_1_method_29_code)) else (bif Nat.ble y 87 then prog_1_method_31_code else (bif Nat.ble y 88 then prog_1_method_30_code else prog_1_method_32_code))))))) else (bif Nat.ble y 130 then (bif Nat.ble y 109 then (bif Nat.ble y 99 then (bif Nat.ble y 94 then (bif Nat.ble y 91 then (bif Nat.ble y 90 then prog_1_method_33_code else prog_1_method_60_code) else (bif Nat.ble y 92 then prog_1_method_61_code else (bif Nat.ble y 93 then prog_1_method_63_code else prog_1_method_62_code))) else (bif Nat.ble y 96 then (bif Nat.ble y 95 then prog_1_method_39_code else prog_1_method_65_code) else (bif Nat.ble y 97 then prog_1_method_64_code else (bif Nat.ble y 98 then prog_1_method_70_code else prog_1_method_69_code)))) else (bif Nat.ble y 104 then (bif Nat.ble y 101 then (bif Nat.ble y 100 then prog_1_method_67_code else prog_1_method_68_code) else (bif Nat.ble y 102 then prog_1_method_66_code else (bif Nat.ble y 103 then prog_1_method_72_code else prog_1_method_71_code))) else (bif Nat.ble y 106 then (bif Nat.ble y 105 then prog_1_method_75_code else prog_1_method_74_code) else (bif Nat.ble y 107 then prog_1_method_73_code else (bif Nat.ble y 108 then prog_1_method_76_code else prog_1_method_77_code))))) else (bif Nat.ble y 119 then (bif Nat.ble y 114 then (bif Nat.ble y 111 then (bif Nat.ble y 110 then prog_1_method_78_code else prog_1_method_79_code) else (bif Nat.ble y 112 then prog_1_method_81_code else (bif Nat.ble y 113 then prog_1_method_80_code else prog_1_method_82_code))) else (bif Nat.ble y 116 then (bif Nat.ble y 115 then prog_1_method_89_code else prog_1_method_85_code) else (bif Nat.ble y 117 then prog_1_method_88_code else (bif Nat.ble y 118 then prog_1_method_83_code else prog_1_method_86_code)))) else (bif Nat.ble y 124 then (bif Nat.ble y 121 then (bif Nat.ble y 120 then prog_1_method_84_code else prog_1_method_87_code) else (bif Nat.ble y 122 then prog_1_method_99_code else (bif Nat.ble y 123 then prog_1_method_93_code else prog_1_method_92_code))) else (bif Nat.ble y 127 then (bif Nat.ble y 125 then prog_1_method_91_code else (bif Nat.ble y 126 then prog_1_method_94_code else prog_1_method_95_code)) else (bif Nat.ble y 128 then prog_1_method_90_code else (bif Nat.ble y 129 then prog_1_method_96_code else prog_1_method_97_code)))))) else (bif Nat.ble y 150 then (bif Nat.ble y 140 then (bif Nat.ble y 135 then (bif Nat.ble y 132 then (bif Nat.ble y 131 then prog_1_method_98_code else prog_1_method_103_code) else (bif Nat.ble y 133 then prog_1_method_100_code else (bif Nat.ble y 134 then prog_1_method_101_code else prog_1_method_104_code))) else (bif Nat.ble y 137 then (bif Nat.ble y 136 then prog_1_method_105_code else prog_1_method_108_code) else (bif Nat.ble y 138 then prog_1_method_109_code else (bif Nat.ble y 139 then prog_1_method_111_code else prog_1_method_110_code)))) else (bif Nat.ble y 145 then (bif Nat.ble y 142 then (bif Nat.ble y 141 then prog_1_method_112_code else prog_1_method_102_code) else (bif Nat.ble y 143 then prog_1_method_113_code else (bif Nat.ble y 144 then prog_1_method_114_code else prog_1_method_115_code))) else (bif Nat.ble y 147 then (bif Nat.ble y 146 then prog_1_method_116_code else prog_14_method_1_code) else (bif Nat.ble y 148 then prog_14_method_4_code else (bif Nat.ble y 149 then prog_14_method_5_code else prog_14_method_2_code))))) else (bif Nat.ble y 160 then (bif Nat.ble y 155 then (bif Nat.ble y 152 then (bif Nat.ble y 151 then prog_14_method_6_code else prog_14_method_3_code) else (bif Nat.ble y 153 then prog_14_method_10_code else (bif Nat.ble y 154 then prog_14_method_14_code else prog_14_method_12_code))) else (bif Nat.ble y 157 then (bif Nat.ble y 156 then prog_14_method_11_code else prog_14_method_15_code) else (bif Nat.ble y 158 then prog_14_method_9_code else (bif Nat.ble y 159 then prog_14_method_13_code else prog_14_method_8_code)))) else (bif Nat.ble y 165 then (bif Nat.ble y 162 then (bif Nat.ble y 161 then prog_14_method_7_code else prog_2_method_1_code) else (bif Nat.ble y 163 then prog_2_method_2_code else (bif Nat.ble y 164 then prog_4_method_1_code else prog_4_method_6_code))) else (bif Nat.ble y 168 then (bif Nat.ble y 166 then prog_4_method_3_code else (bif Nat.ble y 167 then prog_4_method_2_code else prog_4_method_4_code)) else (bif Nat.ble y 169 then prog_18_method_1_code else (bif Nat.ble y 170 then prog_6_method_1_code else prog_6_method_5_code)))))))) else (bif Nat.ble y 253 then (bif Nat.ble y 212 then (bif Nat.ble y 191 then (bif Nat.ble y 181 then (bif Nat.ble y 176 then (bif Nat.ble y 173 then (bif Nat.ble y 172 then prog_6_method_2_code else prog_6_method_4_code) else (bif Nat.ble y 174 then prog_11_method_2_code else (bif Nat.ble y 175 then prog_20_method_10_code else prog_20_method_11_code))) else (bif Nat.ble y 178 then (bif Nat.ble y 177 then prog_20_method_12_code else prog_20_method_13_code) else (bif Nat.ble y 179 then prog_20_method_14_code else (bif Nat.ble y 180 then prog_20_method_135_code else prog_20_method_134_code)))) else (bif Nat.ble y 186 then (bif Nat.ble y 183 then (bif Nat.ble y 182 then prog_20_method_9_code else prog_20_method_8_code) else (bif Nat.ble y 184 then prog_20_method_4_code else (bif Nat.ble y 185 then prog_20_method_58_code else prog_20_method_2_code))) else (bif Nat.ble y 188 then (bif Nat.ble y 187 then prog_20_method_57_code else prog_20_method_3_code) else (bif Nat.ble y 189 then prog_20_method_56_code else (bif Nat.ble y 190 then prog_20_method_55_code else prog_20_method_43_code))))) else (bif Nat.ble y 201 then (bif Nat.ble y 196 then (bif Nat.ble y 193 then (bif Nat.ble y 192 then prog_20_method_39_code else prog_20_method_19_code) else (bif Nat.ble y 194 then prog_20_method_18_code else (bif Nat.ble y 195 then prog_20_method_16_code else prog_20_method_17_code))) else (bif Nat.ble y 198 then (bif Nat.ble y 197 then prog_20_method_30_code else prog_20_method_22_code) else (bif Nat.ble y 199 then prog_20_method_21_code else (bif Nat.ble y 200 then prog_20_method_15_code else prog_20_method_20_code)))) else (bif Nat.ble y 206 then (bif Nat.ble y 203 then (bif Nat.ble y 202 then prog_20_method_28_code else prog_20_method_29_code) else (bif Nat.ble y 204 then prog_20_method_26_code else (bif Nat.ble y 205 then prog_20_method_24_code else prog_20_method_23_code))) else (bif Nat.ble y 209 then (bif Nat.ble y 207 then prog_20_method_34_code else (bif Nat.ble y 208 then prog_20_method_38_code else prog_20_method_36_code)) else (bif Nat.ble y 210 then prog_20_method_35_code else (bif Nat.ble y 211 then prog_20_method_33_code else prog_20_method_31_code)))))) else (bif Nat.ble y 232 then (bif Nat.ble y 222 then (bif Nat.ble y 217 then (bif Nat.ble y 214 then (bif Nat.ble y 213 then prog_20_method_27_code else prog_20_method_32_code) else (bif Nat.ble y 215 then prog_20_method_37_code else (bif Nat.ble y 216 then prog_20_method_41_code else prog_20_method_40_code))) else (bif Nat.ble y 219 then (bif Nat.ble y 218 then prog_20_method_42_code else prog_20_method_5_code) else (bif Nat.ble y 220 then prog_20_method_44_code else (bif Nat.ble y 221 then prog_20_method_45_code else prog_20_method_7_code)))) else (bif Nat.ble y 227 then (bif Nat.ble y 224 then (bif Nat.ble y 223 then prog_20_method_6_code else prog_20_method_46_code) else (bif Nat.ble y 225 then prog_20_method_47_code else (bif Nat.ble y 226 then prog_20_method_54_code else prog_20_method_53_code))) else (bif Nat.ble y 229 then (bif Nat.ble y 228 then prog_20_method_49_code else prog_20_method_48_code) else (bif Nat.ble y 230 then prog_20_method_51_code else (bif Nat.ble y 231 then prog_20_method_50_code else prog_20_method_52_code))))) else (bif Nat.ble y 242 then (bif Nat.ble y 237 then (bif Nat.ble y 234 then (bif Nat.ble y 233 then prog_20_method_60_code else prog_20_method_59_code) else (bif Nat.ble y 235 then prog_20_method_61_code else (bif Nat.ble y 236 then prog_20_method_75_code else prog_20_method_73_code))) else (bif Nat.ble y 239 then (bif Nat.ble y 238 then prog_20_method_63_code else prog_20_method_65_code) else (bif Nat.ble y 240 then prog_20_method_64_code else (bif Nat.ble y 241 then prog_20_method_62_code else prog_20_method_74_code)))) else (bif Nat.ble y 247 then (bif Nat.ble y 244 then (bif Nat.ble y 243 then prog_20_method_66_code else prog_20_method_67_code) else (bif Nat.ble y 245 then prog_20_method_70_code else (bif Nat.ble y 246 then prog_20_method_69_code else prog_20_method_68_code))) else (bif Nat.ble y 250 then (bif Nat.ble y 248 then prog_20_method_72_code else (bif Nat.ble y 249 then prog_20_method_71_code else prog_20_method_76_code)) else (bif Nat.ble y 251 then prog_20_method_77_code else (bif Nat.ble y 252 then prog_20_method_80_code else prog_20_method_79_code))))))) else (bif Nat.ble y 294 then (bif Nat.ble y 273 then (bif Nat.ble y 263 then (bif Nat.ble y 258 then (bif Nat.ble y 255 then (bif Nat.ble y 254 then prog_20_method_78_code else prog_20_method_81_code) else (bif Nat.ble y 256 then prog_20_method_86_code else (bif Nat.ble y 257 then prog_20_method_85_code else prog_20_method_84_code))) else (bif Nat.ble y 260 then (bif Nat.ble y 259 then prog_20_method_83_code else prog_20_method_89_code) else (bif Nat.ble y 261 then prog_20_method_88_code else (bif Nat.ble y 262 then prog_20_method_87_code else prog_20_method_82_code)))) else (bif Nat.ble y 268 then (bif Nat.ble y 265 then (bif Nat.ble y 264 then prog_20_method_92_code else prog_20_method_91_code) else (bif Nat.ble y 266 then prog_20_method_90_code else (bif Nat.ble y 267 then prog_20_method_93_code else prog_20_method_94_code))) else (bif Nat.ble y 270 then (bif Nat.ble y 269 then prog_20_method_95_code else prog_20_method_99_code) else (bif Nat.ble y 271 then prog_20_method_97_code else (bif Nat.ble y 272 then prog_20_method_96_code else prog_20_method_98_code))))) else (bif Nat.ble y 283 then (bif Nat.ble y 278 then (bif Nat.ble y 275 then (bif Nat.ble y 274 then prog_20_method_102_code else prog_20_method_101_code) else (bif Nat.ble y 276 then prog_20_method_100_code else (bif Nat.ble y 277 then prog_20_method_103_code else prog_20_method_107_code))) else (bif Nat.ble y 280 then (bif Nat.ble y 279 then prog_20_method_105_code else prog_20_method_104_code) else (bif Nat.ble y 281 then prog_20_method_106_code else (bif Nat.ble y 282 then prog_20_method_121_code else prog_20_method_112_code)))) else (bif Nat.ble y 288 then (bif Nat.ble y 285 then (bif Nat.ble y 284 then prog_20_method_111_code else prog_20_method_110_code) else (bif Nat.ble y 286 then prog_20_method_113_code else (bif Nat.ble y 287 then prog_20_method_114_code else prog_20_method_109_code))) else (bif Nat.ble y 291 then (bif Nat.ble y 289 then prog_20_method_108_code else (bif Nat.ble y 290 then prog_20_method_115_code else prog_20_method_117_code)) else (bif Nat.ble y 292 then prog_20_method_118_code else (bif Nat.ble y 293 then prog_20_method_119_code else prog_20_method_25_code)))))) else (bif Nat.ble y 314 then (bif Nat.ble y 304 then (bif Nat.ble y 299 then (bif Nat.ble y 296 then (bif Nat.ble y 295 then prog_20_method_120_code else prog_20_method_116_code) else (bif Nat.ble y 297 then prog_20_method_131_code else (bif Nat.ble y 298 then prog_20_method_129_code else prog_20_method_124_code))) else (bif Nat.ble y 301 then (bif Nat.ble y 300 then prog_20_method_126_code else prog_20_method_123_code) else (bif Nat.ble y 302 then prog_20_method_122_code else (bif Nat.ble y 303 then prog_20_method_128_code else prog_20_method_127_code)))) else (bif Nat.ble y 309 then (bif Nat.ble y 306 then (bif Nat.ble y 305 then prog_20_method_125_code else prog_20_method_132_code) else (bif Nat.ble y 307 then prog_20_method_133_code else (bif Nat.ble y 308 then prog_20_method_136_code else prog_20_method_137_code))) else (bif Nat.ble y 311 then (bif Nat.ble y 310 then prog_20_method_138_code else prog_20_method_141_code) else (bif Nat.ble y 312 then prog_20_method_140_code else (bif Nat.ble y 313 then prog_20_method_139_code else prog_20_method_130_code))))) else (bif Nat.ble y 324 then (bif Nat.ble y 319 then (bif Nat.ble y 316 then (bif Nat.ble y 315 then prog_20_method_142_code else prog_20_method_143_code) else (bif Nat.ble y 317 then prog_20_method_144_code else (bif Nat.ble y 318 then prog_20_method_145_code else prog_5_method_2_code))) else (bif Nat.ble y 321 then (bif Nat.ble y 320 then prog_12_method_1_code else prog_12_method_2_code) else (bif Nat.ble y 322 then prog_7_method_1_code else (bif Nat.ble y 323 then prog_7_method_3_code else prog_7_method_5_code)))) else (bif Nat.ble y 329 then (bif Nat.ble y 326 then (bif Nat.ble y 325 then prog_7_method_4_code else prog_7_method_6_code) else (bif Nat.ble y 327 then prog_9_method_1_code else (bif Nat.ble y 328 then prog_9_method_3_code else prog_9_method_6_code))) else (bif Nat.ble y 332 then (bif Nat.ble y 330 then prog_9_method_4_code else (bif Nat.ble y 331 then prog_9_method_5_code else prog_8_method_1_code)) else (bif Nat.ble y 333 then prog_13_method_1_code else (bif Nat.ble y 334 then prog_16_method_1_code else prog_17_method_1_code)))))))))
def am_rt (y : Nat) : Option FieldType := (bif Nat.ble y 171 then (bif Nat.ble y 89 then (bif Nat.ble y 48 then (bif Nat.ble y 27 then (bif Nat.ble y 10 then (bif Nat.ble y 5 then (bif Nat.ble y 2 then (bif Nat.ble y 1 then (Option.some (FieldType.object "java/lang/Object")) else (Option.some (FieldType.object "java/lang/Object"))) else (bif Nat.ble y 3 then (Option.some (FieldType.object "java/lang/Object")) else (bif Nat.ble y 4 then (Option.some (FieldType.object "java/lang/Object")) else (Option.some (FieldType.object "java/lang/Object"))))) else (bif Nat.ble y 7 then (bif Nat.ble y 6 then (Option.some (FieldType.object "ArmsHouse$Whole")) else (Option.some (FieldType.object "ArmsHouse$Whole"))) else (bif Nat.ble y 8 then (Option.some (FieldType.object "ArmsHouse$Whole")) else (bif Nat.ble y 9 then (Option.some (FieldType.object "ArmsHouse$Whole")) else (Option.some (FieldType.object "ArmsHouse$Whole")))))) else (bif Nat.ble y 22 then (bif Nat.ble y 12 then (bif Nat.ble y 11 then (Option.some FieldType.int) else (Option.some FieldType.int)) else (bif Nat.ble y 20 then (Option.some FieldType.int) else (bif Nat.ble y 21 then (Option.some FieldType.byte) else (Option.some FieldType.char)))) else (bif Nat.ble y 24 then (bif Nat.ble y 23 then (Option.some FieldType.boolean) else (Option.none : Option FieldType)) else (bif Nat.ble y 25 then (Option.some FieldType.char) else (bif Nat.ble y 26 then (Option.some FieldType.int) else (Option.some FieldType.int)))))) else (bif Nat.ble y 38 then (bif Nat.ble y 33 then (bif Nat.ble y 29 then (bif Nat.ble y 28 then (Option.some FieldType.int) else (Option.some FieldType.int)) else (bif Nat.ble y 31 then (Option.none : Option FieldType) else (bif Nat.ble y 32 then (Option.none : Option FieldType) else (Option.some (FieldType.object "ArmsHouse$Arms"))))) else (bif Nat.ble y 35 then (bif Nat.ble y 34 then (Option.some FieldType.boolean) else (Option.none : Option FieldType)) else (bif Nat.ble y 36 then (Option.some FieldType.int) else (bif Nat.ble y 37 then (Option.none : Option FieldType) else (Option.some FieldType.int))))) else (bif Nat.ble y 43 then (bif Nat.ble y 40 then (bif Nat.ble y 39 then (Option.some FieldType.boolean) else (Option.some FieldType.int)) else (bif Nat.ble y 41 then (Option.some FieldType.int) else (bif Nat.ble y 42 then (Option.some FieldType.int) else (Option.some FieldType.int)))) else (bif Nat.ble y 45 then (bif Nat.ble y 44 then (Option.none : Option FieldType) else (Option.some (FieldType.object "ArmsHouse$Arms"))) else (bif Nat.ble y 46 then (Option.some (FieldType.object "ArmsHouse$Field")) else (bif Nat.ble y 47 then (Option.some FieldType.int) else (Option.some FieldType.int))))))) else (bif Nat.ble y 68 then (bif Nat.ble y 58 then (bif Nat.ble y 53 then (bif Nat.ble y 50 then (bif Nat.ble y 49 then (Option.some (FieldType.object "ArmsHouse$Layer")) else (Option.some (FieldType.object "ArmsHouse$Ordinary"))) else (bif Nat.ble y 51 then (Option.some (FieldType.object "ArmsHouse$Group")) else (bif Nat.ble y 52 then (Option.some FieldType.int) else (Option.some FieldType.boolean)))) else (bif Nat.ble y 55 then (bif Nat.ble y 54 then (Option.none : Option FieldType) else (Option.some FieldType.int)) else (bif Nat.ble y 56 then (Option.some FieldType.int) else (bif Nat.ble y 57 then (Option.some FieldType.int) else (Option.some FieldType.int))))) else (bif Nat.ble y 63 then (bif Nat.ble y 60 then (bif Nat.ble y 59 then (Option.some FieldType.boolean) else (Option.some (FieldType.object "ArmsHouse$Arms"))) else (bif Nat.ble y 61 then (Option.some FieldType.int) else (bif Nat.ble y 62 then (Option.some FieldType.int) else (Option.some FieldType.int)))) else (bif Nat.ble y 65 then (bif Nat.ble y 64 then (Option.some FieldType.int) else (Option.some FieldType.int)) else (bif Nat.ble y 66 then (Option.some FieldType.int) else (bif Nat.ble y 67 then (Option.some FieldType.int) else (Option.some FieldType.int)))))) else (bif Nat.ble y 78 then (bif Nat.ble y 73 then (bif Nat.ble y 70 then (bif Nat.ble y 69 then (Option.none : Option FieldType) else (Option.none : Option FieldType)) else (bif Nat.ble y 71 then (Option.none : Option FieldType) else (bif Nat.ble y 72 then (Option.none : Option FieldType) else (Option.none : Option FieldType)))) else (bif Nat.ble y 75 then (bif Nat.ble y 74 then (Option.none : Option FieldType) else (Option.none : Option FieldType)) else (bif Nat.ble y 76 then (Option.some FieldType.int) else (bif Nat.ble y 77 then (Option.some FieldType.int) else (Option.some FieldType.int))))) else (bif Nat.ble y 83 then (bif Nat.ble y 80 then (bif Nat.ble y 79 then (Option.none : Option FieldType) else (Option.some FieldType.boolean)) else (bif Nat.ble y 81 then (Option.some FieldType.boolean) else (bif Nat.ble y 82 then (Option.some FieldType.int) else (Option.none : Option FieldType)))) else (bif Nat.ble y 86 then (bif Nat.ble y 84 then (Option.some FieldType.boolean) else (bif Nat.ble y 85 then (Option.none : Option FieldType) else (Option.none : Option FieldType))) else (bif Nat.ble y 87 then (Option.some FieldType.boolean) else (bif Nat.ble y 88 then (Option.some FieldType.boolean) else (Option.some FieldType.boolean)))))))) else (bif Nat.ble y 130 then (bif Nat.ble y 109 then (bif Nat.ble y 99 then (bif Nat.ble y 94 then (bif Nat.ble y 91 then (bif Nat.ble y 90 then (Option.none : Option FieldType) else (Option.some FieldType.int)) else (bif Nat.ble y 92 then (Option.some FieldType.int) else (bif Nat.ble y 93 then (Option.some FieldType.int) else (Option.some FieldType.boolean)))) else (bif Nat.ble y 96 then (bif Nat.ble y 95 then (Option.some FieldType.boolean) else (Option.some FieldType.int)) else (bif Nat.ble y 97 then (Option.some FieldType.boolean) else (bif Nat.ble y 98 then (Option.some FieldType.int) else (Option.none : Option FieldType))))) else (bif Nat.ble y 104 then (bif Nat.ble y 101 then (bif Nat.ble y 100 then (Option.none : Option FieldType) else (Option.none : Option FieldType)) else (bif Nat.ble y 102 then (Option.some FieldType.boolean) else (bif Nat.ble y 103 then (Option.some FieldType.int) else (Option.some FieldType.int)))) else (bif Nat.ble y 106 then (bif Nat.ble y 105 then (Option.some FieldType.int) else (Option.some FieldType.int)) else (bif Nat.ble y 107 then (Option.some FieldType.boolean) else (bif Nat.ble y 108 then (Option.some FieldType.int) else (Option.some FieldType.int)))))) else (bif Nat.ble y 119 then (bif Nat.ble y 114 then (bif Nat.ble y 111 then (bif Nat.ble y 110 then (Option.some FieldType.int) else (Option.some FieldType.int)) else (bif Nat.ble y 112 then (Option.some FieldType.int) else (bif Nat.ble y 113 then (Option.some FieldType.int) else (Option.some FieldType.int)))) else (bif Nat.ble y 116 then (bif Nat.ble y 115 then (Option.some FieldType.int) else (Option.some FieldType.boolean)) else (bif Nat.ble y 117 then (Option.some FieldType.boolean) else (bif Nat.ble y 118 then (Option.some FieldType.int) else (Option.some FieldType.boolean))))) else (bif Nat.ble y 124 then (bif Nat.ble y 121 then (bif Nat.ble y 120 then (Option.some FieldType.int) else (Option.some FieldType.boolean)) else (bif Nat.ble y 122 then (Option.some FieldType.int) else (bif Nat.ble y 123 then (Option.some (FieldType.object "ArmsHouse$Node")) else (Option.some FieldType.boolean)))) else (bif Nat.ble y 127 then (bif Nat.ble y 125 then (Option.some FieldType.boolean) else (bif Nat.ble y 126 then (Option.some (FieldType.object "ArmsHouse$Node")) else (Option.some (FieldType.object "ArmsHouse$Node")))) else (bif Nat.ble y 128 then (Option.none : Option FieldType) else (bif Nat.ble y 129 then (Option.some (FieldType.object "ArmsHouse$Node")) else (Option.some (FieldType.object "ArmsHouse$Node")))))))) else (bif Nat.ble y 150 then (bif Nat.ble y 140 then (bif Nat.ble y 135 then (bif Nat.ble y 132 then (bif Nat.ble y 131 then (Option.some (FieldType.object "ArmsHouse$Node")) else (Option.some FieldType.int)) else (bif Nat.ble y 133 then (Option.some FieldType.int) else (bif Nat.ble y 134 then (Option.some FieldType.long) else (Option.some FieldType.long)))) else (bif Nat.ble y 137 then (bif Nat.ble y 136 then (Option.some FieldType.int) else (Option.some FieldType.int)) else (bif Nat.ble y 138 then (Option.some FieldType.int) else (bif Nat.ble y 139 then (Option.some FieldType.int) else (Option.some FieldType.int))))) else (bif Nat.ble y 145 then (bif Nat.ble y 142 then (bif Nat.ble y 141 then (Option.some FieldType.int) else (Option.some FieldType.boolean)) else (bif Nat.ble y 143 then (Option.some FieldType.int) else (bif Nat.ble y 144 then (Option.some FieldType.int) else (Option.some FieldType.int)))) else (bif Nat.ble y 147 then (bif Nat.ble y 146 then (Option.some FieldType.int) else (Option.none : Option FieldType)) else (bif Nat.ble y 148 then (Option.none : Option FieldType) else (bif Nat.ble y 149 then (Option.some FieldType.int) else (Option.some FieldType.boolean)))))) else (bif Nat.ble y 160 then (bif Nat.ble y 155 then (bif Nat.ble y 152 then (bif Nat.ble y 151 then (Option.some FieldType.int) else (Option.some FieldType.boolean)) else (bif Nat.ble y 153 then (Option.some FieldType.boolean) else (bif Nat.ble y 154 then (Option.some FieldType.int) else (Option.none : Option FieldType)))) else (bif Nat.ble y 157 then (bif Nat.ble y 156 then (Option.none : Option FieldType) else (Option.some FieldType.boolean)) else (bif Nat.ble y 158 then (Option.some FieldType.boolean) else (bif Nat.ble y 159 then (Option.none : Option FieldType) else (Option.some FieldType.int))))) else (bif Nat.ble y 165 then (bif Nat.ble y 162 then (bif Nat.ble y 161 then (Option.some FieldType.int) else (Option.none : Option FieldType)) else (bif Nat.ble y 163 then (Option.some (FieldType.object "ArmsHouse$Arms")) else (bif Nat.ble y 164 then (Option.none : Option FieldType) else (Option.some FieldType.int)))) else (bif Nat.ble y 168 then (bif Nat.ble y 166 then (Option.some (FieldType.object "ArmsHouse$Field")) else (bif Nat.ble y 167 then (Option.some (FieldType.object "ArmsHouse$Whole")) else (Option.some FieldType.int))) else (bif Nat.ble y 169 then (Option.none : Option FieldType) else (bif Nat.ble y 170 then (Option.none : Option FieldType) else (Option.some FieldType.boolean))))))))) else (bif Nat.ble y 253 then (bif Nat.ble y 212 then (bif Nat.ble y 191 then (bif Nat.ble y 181 then (bif Nat.ble y 176 then (bif Nat.ble y 173 then (bif Nat.ble y 172 then (Option.some (FieldType.object "ArmsHouse$Layer")) else (Option.some (FieldType.object "ArmsHouse$Whole"))) else (bif Nat.ble y 174 then (Option.none : Option FieldType) else (bif Nat.ble y 175 then (Option.some FieldType.int) else (Option.some FieldType.int)))) else (bif Nat.ble y 178 then (bif Nat.ble y 177 then (Option.some FieldType.int) else (Option.some FieldType.int)) else (bif Nat.ble y 179 then (Option.none : Option FieldType) else (bif Nat.ble y 180 then (Option.none : Option FieldType) else (Option.none : Option FieldType))))) else (bif Nat.ble y 186 then (bif Nat.ble y 183 then (bif Nat.ble y 182 then (Option.none : Option FieldType) else (Option.none : Option FieldType)) else (bif Nat.ble y 184 then (Option.none : Option FieldType) else (bif Nat.ble y 185 then (Option.some FieldType.int) else (Option.some FieldType.int)))) else (bif Nat.ble y 188 then (bif Nat.ble y 187 then (Option.some FieldType.boolean) else (Option.some FieldType.int)) else (bif Nat.ble y 189 then (Option.some FieldType.int) else (bif Nat.ble y 190 then (Option.some FieldType.int) else (Option.some FieldType.int)))))) else (bif Nat.ble y 201 then (bif Nat.ble y 196 then (bif Nat.ble y 193 then (bif Nat.ble y 192 then (Option.none : Option FieldType) else (Option.none : Option FieldType)) else (bif Nat.ble y 194 then (Option.none : Option FieldType) else (bif Nat.ble y 195 then (Option.some FieldType.boolean) else (Option.some FieldType.boolean)))) else (bif Nat.ble y 198 then (bif Nat.ble y 197 then (Option.none : Option FieldType) else (Option.some FieldType.boolean)) else (bif Nat.ble y 199 then (Option.none : Option FieldType) else (bif Nat.ble y 200 then (Option.some FieldType.int) else (Option.none : Option FieldType))))) else (bif Nat.ble y 206 then (bif Nat.ble y 203 then (bif Nat.ble y 202 then (Option.some FieldType.int) else (Option.none : Option FieldType)) else (bif Nat.ble y 204 then (Option.some FieldType.int) else (bif Nat.ble y 205 then (Option.none : Option FieldType) else (Option.some FieldType.boolean)))) else (bif Nat.ble y 209 then (bif Nat.ble y 207 then (Option.none : Option FieldType) else (bif Nat.ble y 208 then (Option.none : Option FieldType) else (Option.none : Option FieldType))) else (bif Nat.ble y 210 then (Option.none : Option FieldType) else (bif Nat.ble y 211 then (Option.none : Option FieldType) else (Option.some FieldType.int))))))) else (bif Nat.ble y 232 then (bif Nat.ble y 222 then (bif Nat.ble y 217 then (bif Nat.ble y 214 then (bif Nat.ble y 213 then (Option.some FieldType.boolean) else (Option.some FieldType.boolean)) else (bif Nat.ble y 215 then (Option.none : Option FieldType) else (bif Nat.ble y 216 then (Option.none : Option FieldType) else (Option.some FieldType.boolean)))) else (bif Nat.ble y 219 then (bif Nat.ble y 218 then (Option.some FieldType.int) else (Option.none : Option FieldType)) else (bif Nat.ble y 220 then (Option.some FieldType.int) else (bif Nat.ble y 221 then (Option.some FieldType.int) else (Option.some FieldType.boolean))))) else (bif Nat.ble y 227 then (bif Nat.ble y 224 then (bif Nat.ble y 223 then (Option.some FieldType.boolean) else (Option.some FieldType.int)) else (bif Nat.ble y 225 then (Option.some FieldType.int) else (bif Nat.ble y 226 then (Option.some FieldType.int) else (Option.none : Option FieldType)))) else (bif Nat.ble y 229 then (bif Nat.ble y 228 then (Option.none : Option FieldType) else (Option.none : Option FieldType)) else (bif Nat.ble y 230 then (Option.none : Option FieldType) else (bif Nat.ble y 231 then (Option.none : Option FieldType) else (Option.none : Option FieldType)))))) else (bif Nat.ble y 242 then (bif Nat.ble y 237 then (bif Nat.ble y 234 then (bif Nat.ble y 233 then (Option.some FieldType.int) else (Option.some FieldType.int)) else (bif Nat.ble y 235 then (Option.some FieldType.int) else (bif Nat.ble y 236 then (Option.some FieldType.int) else (Option.none : Option FieldType)))) else (bif Nat.ble y 239 then (bif Nat.ble y 238 then (Option.some FieldType.boolean) else (Option.some FieldType.boolean)) else (bif Nat.ble y 240 then (Option.some FieldType.int) else (bif Nat.ble y 241 then (Option.some FieldType.int) else (Option.none : Option FieldType))))) else (bif Nat.ble y 247 then (bif Nat.ble y 244 then (bif Nat.ble y 243 then (Option.some FieldType.boolean) else (Option.some FieldType.boolean)) else (bif Nat.ble y 245 then (Option.none : Option FieldType) else (bif Nat.ble y 246 then (Option.none : Option FieldType) else (Option.some FieldType.int)))) else (bif Nat.ble y 250 then (bif Nat.ble y 248 then (Option.some FieldType.boolean) else (bif Nat.ble y 249 then (Option.some FieldType.boolean) else (Option.some FieldType.int))) else (bif Nat.ble y 251 then (Option.some FieldType.int) else (bif Nat.ble y 252 then (Option.some FieldType.int) else (Option.some FieldType.boolean)))))))) else (bif Nat.ble y 294 then (bif Nat.ble y 273 then (bif Nat.ble y 263 then (bif Nat.ble y 258 then (bif Nat.ble y 255 then (bif Nat.ble y 254 then (Option.some FieldType.boolean) else (Option.some FieldType.int)) else (bif Nat.ble y 256 then (Option.some FieldType.int) else (bif Nat.ble y 257 then (Option.none : Option FieldType) else (Option.none : Option FieldType)))) else (bif Nat.ble y 260 then (bif Nat.ble y 259 then (Option.some FieldType.boolean) else (Option.some FieldType.int)) else (bif Nat.ble y 261 then (Option.some FieldType.int) else (bif Nat.ble y 262 then (Option.some FieldType.int) else (Option.some FieldType.boolean))))) else (bif Nat.ble y 268 then (bif Nat.ble y 265 then (bif Nat.ble y 264 then (Option.some FieldType.int) else (Option.some FieldType.int)) else (bif Nat.ble y 266 then (Option.some FieldType.boolean) else (bif Nat.ble y 267 then (Option.some FieldType.int) else (Option.some FieldType.int)))) else (bif Nat.ble y 270 then (bif Nat.ble y 269 then (Option.some FieldType.int) else (Option.some FieldType.int)) else (bif Nat.ble y 271 then (Option.some FieldType.int) else (bif Nat.ble y 272 then (Option.some FieldType.int) else (Option.some FieldType.int)))))) else (bif Nat.ble y 283 then (bif Nat.ble y 278 then (bif Nat.ble y 275 then (bif Nat.ble y 274 then (Option.some FieldType.int) else (Option.some FieldType.int)) else (bif Nat.ble y 276 then (Option.some FieldType.boolean) else (bif Nat.ble y 277 then (Option.some FieldType.int) else (Option.some FieldType.int)))) else (bif Nat.ble y 280 then (bif Nat.ble y 279 then (Option.some FieldType.boolean) else (Option.none : Option FieldType)) else (bif Nat.ble y 281 then (Option.some FieldType.boolean) else (bif Nat.ble y 282 then (Option.some FieldType.int) else (Option.some FieldType.int))))) else (bif Nat.ble y 288 then (bif Nat.ble y 285 then (bif Nat.ble y 284 then (Option.none : Option FieldType) else (Option.some FieldType.boolean)) else (bif Nat.ble y 286 then (Option.some FieldType.int) else (bif Nat.ble y 287 then (Option.some FieldType.int) else (Option.none : Option FieldType)))) else (bif Nat.ble y 291 then (bif Nat.ble y 289 then (Option.some FieldType.int) else (bif Nat.ble y 290 then (Option.some FieldType.int) else (Option.some FieldType.int))) else (bif Nat.ble y 292 then (Option.some FieldType.int) else (bif Nat.ble y 293 then (Option.some FieldType.int) else (Option.none : Option FieldType))))))) else (bif Nat.ble y 314 then (bif Nat.ble y 304 then (bif Nat.ble y 299 then (bif Nat.ble y 296 then (bif Nat.ble y 295 then (Option.some FieldType.int) else (Option.some FieldType.int)) else (bif Nat.ble y 297 then (Option.some FieldType.int) else (bif Nat.ble y 298 then (Option.some FieldType.int) else (Option.none : Option FieldType)))) else (bif Nat.ble y 301 then (bif Nat.ble y 300 then (Option.none : Option FieldType) else (Option.none : Option FieldType)) else (bif Nat.ble y 302 then (Option.none : Option FieldType) else (bif Nat.ble y 303 then (Option.none : Option FieldType) else (Option.none : Option FieldType))))) else (bif Nat.ble y 309 then (bif Nat.ble y 306 then (bif Nat.ble y 305 then (Option.none : Option FieldType) else (Option.some FieldType.long)) else (bif Nat.ble y 307 then (Option.some FieldType.int) else (bif Nat.ble y 308 then (Option.some FieldType.int) else (Option.some FieldType.int)))) else (bif Nat.ble y 311 then (bif Nat.ble y 310 then (Option.some FieldType.int) else (Option.some FieldType.int)) else (bif Nat.ble y 312 then (Option.some FieldType.boolean) else (bif Nat.ble y 313 then (Option.some FieldType.boolean) else (Option.some FieldType.boolean)))))) else (bif Nat.ble y 324 then (bif Nat.ble y 319 then (bif Nat.ble y 316 then (bif Nat.ble y 315 then (Option.some FieldType.int) else (Option.some FieldType.int)) else (bif Nat.ble y 317 then (Option.some FieldType.int) else (bif Nat.ble y 318 then (Option.some FieldType.int) else (Option.none : Option FieldType)))) else (bif Nat.ble y 321 then (bif Nat.ble y 320 then (Option.none : Option FieldType) else (Option.some FieldType.boolean)) else (bif Nat.ble y 322 then (Option.none : Option FieldType) else (bif Nat.ble y 323 then (Option.some (FieldType.object "java/lang/Object")) else (Option.some (FieldType.object "ArmsHouse$Whole")))))) else (bif Nat.ble y 329 then (bif Nat.ble y 326 then (bif Nat.ble y 325 then (Option.some FieldType.long) else (Option.some (FieldType.object "ArmsHouse$Whole"))) else (bif Nat.ble y 327 then (Option.none : Option FieldType) else (bif Nat.ble y 328 then (Option.some FieldType.int) else (Option.some (FieldType.object "ArmsHouse$Group"))))) else (bif Nat.ble y 332 then (bif Nat.ble y 330 then (Option.some (FieldType.object "ArmsHouse$Whole")) else (bif Nat.ble y 331 then (Option.some (FieldType.object "ArmsHouse$Whole")) else (Option.none : Option FieldType))) else (bif Nat.ble y 333 then (Option.none : Option FieldType) else (bif Nat.ble y 334 then (Option.none : Option FieldType) else (Option.none : Option FieldType))))))))))
def am_ys : List Nat := [1, 2, 3, 4, 5, 6, 7, 8, 9, 10, 11, 12, 20, 21, 22, 23, 24, 25, 26, 27, 28, 29, 31, 32, 33, 34, 35, 36, 37, 38, 39, 40, 41, 42, 43, 44, 45, 46, 47, 48, 49, 50, 51, 52, 53, 54, 55, 56, 57, 58, 59, 60, 61, 62, 63, 64, 65, 66, 67, 68, 69, 70, 71, 72, 73, 74, 75, 76, 77, 78, 79, 80, 81, 82, 83, 84, 85, 86, 87, 88, 89, 90, 91, 92, 93, 94, 95, 96, 97, 98, 99, 100, 101, 102, 103, 104, 105, 106, 107, 108, 109, 110, 111, 112, 113, 114, 115, 116, 117, 118, 119, 120, 121, 122, 123, 124, 125, 126, 127, 128, 129, 130, 131, 132, 133, 134, 135, 136, 137, 138, 139, 140, 141, 142, 143, 144, 145, 146, 147, 148, 149, 150, 151, 152, 153, 154, 155, 156, 157, 158, 159, 160, 161, 162, 163, 164, 165, 166, 167, 168, 169, 170, 171, 172, 173, 174, 175, 176, 177, 178, 179, 180, 181, 182, 183, 184, 185, 186, 187, 188, 189, 190, 191, 192, 193, 194, 195, 196, 197, 198, 199, 200, 201, 202, 203, 204, 205, 206, 207, 208, 209, 210, 211, 212, 213, 214, 215, 216, 217, 218, 219, 220, 221, 222, 223, 224, 225, 226, 227, 228, 229, 230, 231, 232, 233, 234, 235, 236, 237, 238, 239, 240, 241, 242, 243, 244, 245, 246, 247, 248, 249, 250, 251, 252, 253, 254, 255, 256, 257, 258, 259, 260, 261, 262, 263, 264, 265, 266, 267, 268, 269, 270, 271, 272, 273, 274, 275, 276, 277, 278, 279, 280, 281, 282, 283, 284, 285, 286, 287, 288, 289, 290, 291, 292, 293, 294, 295, 296, 297, 298, 299, 300, 301, 302, 303, 304, 305, 306, 307, 308, 309, 310, 311, 312, 313, 314, 315, 316, 317, 318, 319, 320, 321, 322, 323, 324, 325, 326, 327, 328, 329, 330, 331, 332, 333, 334, 335]
theorem wk_1 : am_walk (prog_9_method_2_code.data.toList.drop 0) 0 cd_1 = true := by decide +kernel
theorem wo_1_13 : decode prog_9_method_2_code 13 = .ok (.lookupswitch 257 #[(51, 99), (55, 130), (56, 145), (57, 157), (58, 170), (59, 179), (60, 196), (61, 209), (62, 222), (63, 238), (145, 119)], 99) := by decide +kernel
theorem wo_1_197 : decode prog_9_method_2_code 197 = .ok (.invokeinterface 70 1, 5) := by decide +kernel
theorem wk_2 : am_walk (prog_8_method_2_code.data.toList.drop 0) 0 cd_2 = true := by decide +kernel
theorem wk_3 : am_walk (prog_13_method_2_code.data.toList.drop 0) 0 cd_3 = true := by decide +kernel
theorem wk_4 : am_walk (prog_16_method_2_code.data.toList.drop 0) 0 cd_4 = true := by decide +kernel
theorem wk_5 : am_walk (prog_17_method_2_code.data.toList.drop 0) 0 cd_5 = true := by decide +kernel
theorem wo_5_176 : decode prog_17_method_2_code 176 = .ok (.lookupswitch 92 #[(142, 82), (143, 62), (145, 72), (160, 44)], 44) := by decide +kernel
theorem wk_6 : am_walk (prog_4_method_5_code.data.toList.drop 0) 0 cd_6 = true := by decide +kernel
theorem wk_7 : am_walk (prog_6_method_3_code.data.toList.drop 0) 0 cd_7 = true := by decide +kernel
theorem wk_8 : am_walk (prog_10_method_3_code.data.toList.drop 0) 0 cd_8 = true := by decide +kernel
theorem wo_8_1 : decode prog_10_method_3_code 1 = .ok (.invokeinterface 3 1, 5) := by decide +kernel
theorem wo_8_7 : decode prog_10_method_3_code 7 = .ok (.invokeinterface 9 1, 5) := by decide +kernel
theorem wo_8_17 : decode prog_10_method_3_code 17 = .ok (.invokeinterface 9 1, 5) := by decide +kernel
theorem wo_8_31 : decode prog_10_method_3_code 31 = .ok (.invokeinterface 3 1, 5) := by decide +kernel
theorem wk_9 : am_walk (prog_11_method_1_code.data.toList.drop 0) 0 cd_9 = true := by decide +kernel
theorem wk_10 : am_walk (prog_5_method_1_code.data.toList.drop 0) 0 cd_10 = true := by decide +kernel
theorem wk_11 : am_walk (prog_11_method_3_code.data.toList.drop 0) 0 cd_11 = true := by decide +kernel
theorem wk_12 : am_walk (prog_5_method_3_code.data.toList.drop 0) 0 cd_12 = true := by decide +kernel
theorem wk_20 : am_walk (prog_29_method_54_code.data.toList.drop 0) 0 cd_20 = true := by decide +kernel
theorem wk_21 : am_walk (prog_29_method_152_code.data.toList.drop 0) 0 cd_21 = true := by decide +kernel
theorem wk_22 : am_walk (prog_29_method_56_code.data.toList.drop 0) 0 cd_22 = true := by decide +kernel
theorem wk_23 : am_walk (prog_29_method_154_code.data.toList.drop 0) 0 cd_23 = true := by decide +kernel
theorem wk_24 : am_walk (prog_29_method_155_code.data.toList.drop 0) 0 cd_24 = true := by decide +kernel
theorem wk_25 : am_walk (prog_30_method_2_code.data.toList.drop 0) 0 cd_25 = true := by decide +kernel
theorem wk_26 : am_walk (prog_34_method_11_code.data.toList.drop 0) 0 cd_26 = true := by decide +kernel
theorem wk_27 : am_walk (prog_26_method_65_code.data.toList.drop 0) 0 cd_27 = true := by decide +kernel
theorem wk_28 : am_walk (prog_26_method_50_code.data.toList.drop 0) 0 cd_28 = true := by decide +kernel
theorem wk_29 : am_walk (prog_26_method_59_code.data.toList.drop 0) 0 cd_29 = true := by decide +kernel
theorem wk_31 : am_walk (prog_1_method_37_code.data.toList.drop 0) 0 cd_31 = true := by decide +kernel
theorem wo_31_489 : decode prog_1_method_37_code 489 = .ok (.newarray .int, 2) := by decide +kernel
theorem wo_31_497 : decode prog_1_method_37_code 497 = .ok (.newarray .int, 2) := by decide +kernel
theorem wo_31_506 : decode prog_1_method_37_code 506 = .ok (.newarray .int, 2) := by decide +kernel
theorem wo_31_515 : decode prog_1_method_37_code 515 = .ok (.newarray .boolean, 2) := by decide +kernel
theorem wo_31_524 : decode prog_1_method_37_code 524 = .ok (.newarray .boolean, 2) := by decide +kernel
theorem wo_31_533 : decode prog_1_method_37_code 533 = .ok (.newarray .int, 2) := by decide +kernel
theorem wo_31_541 : decode prog_1_method_37_code 541 = .ok (.newarray .int, 2) := by decide +kernel
theorem wo_31_549 : decode prog_1_method_37_code 549 = .ok (.newarray .int, 2) := by decide +kernel
theorem wo_31_557 : decode prog_1_method_37_code 557 = .ok (.newarray .int, 2) := by decide +kernel
theorem wo_31_578 : decode prog_1_method_37_code 578 = .ok (.newarray .int, 2) := by decide +kernel
theorem wo_31_605 : decode prog_1_method_37_code 605 = .ok (.newarray .int, 2) := by decide +kernel
theorem wo_31_613 : decode prog_1_method_37_code 613 = .ok (.newarray .int, 2) := by decide +kernel
theorem wo_31_630 : decode prog_1_method_37_code 630 = .ok (.newarray .int, 2) := by decide +kernel
theorem wo_31_638 : decode prog_1_method_37_code 638 = .ok (.newarray .int, 2) := by decide +kernel
theorem wo_31_671 : decode prog_1_method_37_code 671 = .ok (.newarray .int, 2) := by decide +kernel
theorem wo_31_733 : decode prog_1_method_37_code 733 = .ok (.newarray .int, 2) := by decide +kernel
theorem wk_32 : am_walk (prog_1_method_106_code.data.toList.drop 0) 0 cd_32 = true := by decide +kernel
theorem wk_33 : am_walk (prog_1_method_107_code.data.toList.drop 0) 0 cd_33 = true := by decide +kernel
theorem wk_34 : am_walk (prog_1_method_21_code.data.toList.drop 0) 0 cd_34 = true := by decide +kernel
theorem wk_35 : am_walk (prog_1_method_20_code.data.toList.drop 0) 0 cd_35 = true := by decide +kernel
theorem wk_36 : am_walk (prog_1_method_1_code.data.toList.drop 0) 0 cd_36 = true := by decide +kernel
theorem wk_37 : am_walk (prog_1_method_19_code.data.toList.drop 0) 0 cd_37 = true := by decide +kernel
theorem wk_38 : am_walk (prog_1_method_42_code.data.toList.drop 0) 0 cd_38 = true := by decide +kernel
theorem wk_39 : am_walk (prog_1_method_38_code.data.toList.drop 0) 0 cd_39 = true := by decide +kernel
theorem wk_40 : am_walk (prog_1_method_43_code.data.toList.drop 0) 0 cd_40 = true := by decide +kernel
theorem wk_41 : am_walk (prog_1_method_44_code.data.toList.drop 0) 0 cd_41 = true := by decide +kernel
theorem wk_42 : am_walk (prog_1_method_45_code.data.toList.drop 0) 0 cd_42 = true := by decide +kernel
theorem wk_43 : am_walk (prog_1_method_49_code.data.toList.drop 0) 0 cd_43 = true := by decide +kernel
theorem wk_44 : am_walk (prog_1_method_46_code.data.toList.drop 0) 0 cd_44 = true := by decide +kernel
theorem wk_45 : am_walk (prog_1_method_10_code.data.toList.drop 0) 0 cd_45 = true := by decide +kernel
theorem wk_46 : am_walk (prog_1_method_5_code.data.toList.drop 0) 0 cd_46 = true := by decide +kernel
theorem wk_47 : am_walk (prog_1_method_4_code.data.toList.drop 0) 0 cd_47 = true := by decide +kernel
theorem wk_48 : am_walk (prog_1_method_6_code.data.toList.drop 0) 0 cd_48 = true := by decide +kernel
theorem wk_49 : am_walk (prog_1_method_9_code.data.toList.drop 0) 0 cd_49 = true := by decide +kernel
theorem wk_50 : am_walk (prog_1_method_8_code.data.toList.drop 0) 0 cd_50 = true := by decide +kernel
theorem wk_51 : am_walk (prog_1_method_7_code.data.toList.drop 0) 0 cd_51 = true := by decide +kernel
theorem wk_52 : am_walk (prog_1_method_2_code.data.toList.drop 0) 0 cd_52 = true := by decide +kernel
theorem wk_53 : am_walk (prog_1_method_3_code.data.toList.drop 0) 0 cd_53 = true := by decide +kernel
theorem wk_54 : am_walk (prog_1_method_11_code.data.toList.drop 0) 0 cd_54 = true := by decide +kernel
theorem wk_55 : am_walk (prog_1_method_47_code.data.toList.drop 0) 0 cd_55 = true := by decide +kernel
theorem wk_56 : am_walk (prog_1_method_48_code.data.toList.drop 0) 0 cd_56 = true := by decide +kernel
theorem wk_57 : am_walk (prog_1_method_50_code.data.toList.drop 0) 0 cd_57 = true := by decide +kernel
theorem wk_58 : am_walk (prog_1_method_51_code.data.toList.drop 0) 0 cd_58 = true := by decide +kernel
theorem wk_59 : am_walk (prog_1_method_41_code.data.toList.drop 0) 0 cd_59 = true := by decide +kernel
theorem wk_60 : am_walk (prog_1_method_40_code.data.toList.drop 0) 0 cd_60 = true := by decide +kernel
theorem wk_61 : am_walk (prog_1_method_36_code.data.toList.drop 0) 0 cd_61 = true := by decide +kernel
theorem wk_62 : am_walk (prog_1_method_34_code.data.toList.drop 0) 0 cd_62 = true := by decide +kernel
theorem wk_63 : am_walk (prog_1_method_35_code.data.toList.drop 0) 0 cd_63 = true := by decide +kernel
theorem wk_64 : am_walk (prog_1_method_52_code.data.toList.drop 0) 0 cd_64 = true := by decide +kernel
theorem wk_65 : am_walk (prog_1_method_53_code.data.toList.drop 0) 0 cd_65 = true := by decide +kernel
theorem wk_66 : am_walk (prog_1_method_54_code.data.toList.drop 0) 0 cd_66 = true := by decide +kernel
theorem wk_67 : am_walk (prog_1_method_55_code.data.toList.drop 0) 0 cd_67 = true := by decide +kernel
theorem wo_67_6 : decode prog_1_method_55_code 6 = .ok (.tableswitch 120 0 8 #[50, 120, 120, 120, 63, 68, 81, 94, 107], 50) := by decide +kernel
theorem wk_68 : am_walk (prog_1_method_56_code.data.toList.drop 0) 0 cd_68 = true := by decide +kernel
theorem wk_69 : am_walk (prog_1_method_17_code.data.toList.drop 0) 0 cd_69 = true := by decide +kernel
theorem wk_70 : am_walk (prog_1_method_13_code.data.toList.drop 0) 0 cd_70 = true := by decide +kernel
theorem wk_71 : am_walk (prog_1_method_12_code.data.toList.drop 0) 0 cd_71 = true := by decide +kernel
theorem wk_72 : am_walk (prog_1_method_15_code.data.toList.drop 0) 0 cd_72 = true := by decide +kernel
theorem wk_73 : am_walk (prog_1_method_14_code.data.toList.drop 0) 0 cd_73 = true := by decide +kernel
theorem wk_74 : am_walk (prog_1_method_18_code.data.toList.drop 0) 0 cd_74 = true := by decide +kernel
theorem wk_75 : am_walk (prog_1_method_16_code.data.toList.drop 0) 0 cd_75 = true := by decide +kernel
theorem wk_76 : am_walk (prog_1_method_57_code.data.toList.drop 0) 0 cd_76 = true := by decide +kernel
theorem wk_77 : am_walk (prog_1_method_58_code.data.toList.drop 0) 0 cd_77 = true := by decide +kernel
theorem wk_78 : am_walk (prog_1_method_59_code.data.toList.drop 0) 0 cd_78 = true := by decide +kernel
theorem wk_79 : am_walk (prog_1_method_26_code.data.toList.drop 0) 0 cd_79 = true := by decide +kernel
theorem wk_80 : am_walk (prog_1_method_23_code.data.toList.drop 0) 0 cd_80 = true := by decide +kernel
theorem wk_81 : am_walk (prog_1_method_24_code.data.toList.drop 0) 0 cd_81 = true := by decide +kernel
theorem wo_81_4 : decode prog_1_method_24_code 4 = .ok (.tableswitch 280 1 9 #[52, 73, 94, 123, 158, 189, 209, 229, 260], 52) := by decide +kernel
theorem wk_82 : am_walk (prog_1_method_22_code.data.toList.drop 0) 0 cd_82 = true := by decide +kernel
theorem wk_83 : am_walk (prog_1_method_27_code.data.toList.drop 0) 0 cd_83 = true := by decide +kernel
theorem wk_84 : am_walk (prog_1_method_25_code.data.toList.drop 0) 0 cd_84 = true := by decide +kernel
theorem wo_84_4 : decode prog_1_method_25_code 4 = .ok (.tableswitch 300 0 6 #[44, 75, 106, 140, 184, 223, 279], 44) := by decide +kernel
theorem wk_85 : am_walk (prog_1_method_28_code.data.toList.drop 0) 0 cd_85 = true := by decide +kernel
theorem wo_85_52 : decode prog_1_method_28_code 52 = .ok (.tableswitch 105 1 7 #[44, 63, 105, 105, 105, 86, 44], 44) := by decide +kernel
theorem wk_86 : am_walk (prog_1_method_29_code.data.toList.drop 0) 0 cd_86 = true := by decide +kernel
theorem wk_87 : am_walk (prog_1_method_31_code.data.toList.drop 0) 0 cd_87 = true := by decide +kernel
theorem wk_88 : am_walk (prog_1_method_30_code.data.toList.drop 0) 0 cd_88 = true := by decide +kernel
theorem wk_89 : am_walk (prog_1_method_32_code.data.toList.drop 0) 0 cd_89 = true := by decide +kernel
theorem wk_90 : am_walk (prog_1_method_33_code.data.toList.drop 0) 0 cd_90 = true := by decide +kernel
theorem wk_91 : am_walk (prog_1_method_60_code.data.toList.drop 0) 0 cd_91 = true := by decide +kernel
theorem wk_92 : am_walk (prog_1_method_61_code.data.toList.drop 0) 0 cd_92 = true := by decide +kernel
theorem wk_93 : am_walk (prog_1_method_63_code.data.toList.drop 0) 0 cd_93 = true := by decide +kernel
theorem wk_94 : am_walk (prog_1_method_62_code.data.toList.drop 0) 0 cd_94 = true := by decide +kernel
theorem wk_95 : am_walk (prog_1_method_39_code.data.toList.drop 0) 0 cd_95 = true := by decide +kernel
theorem wk_96 : am_walk (prog_1_method_65_code.data.toList.drop 0) 0 cd_96 = true := by decide +kernel
theorem wk_97 : am_walk (prog_1_method_64_code.data.toList.drop 0) 0 cd_97 = true := by decide +kernel
theorem wk_98 : am_walk (prog_1_method_70_code.data.toList.drop 0) 0 cd_98 = true := by decide +kernel
theorem wk_99 : am_walk (prog_1_method_69_code.data.toList.drop 0) 0 cd_99 = true := by decide +kernel
theorem wk_100 : am_walk (prog_1_method_67_code.data.toList.drop 0) 0 cd_100 = true := by decide +kernel
theorem wk_101 : am_walk (prog_1_method_68_code.data.toList.drop 0) 0 cd_101 = true := by decide +kernel
theorem wk_102 : am_walk (prog_1_method_66_code.data.toList.drop 0) 0 cd_102 = true := by decide +kernel
theorem wk_103 : am_walk (prog_1_method_72_code.data.toList.drop 0) 0 cd_103 = true := by decide +kernel
theorem wk_104 : am_walk (prog_1_method_71_code.data.toList.drop 0) 0 cd_104 = true := by decide +kernel
theorem wk_105 : am_walk (prog_1_method_75_code.data.toList.drop 0) 0 cd_105 = true := by decide +kernel
theorem wk_106 : am_walk (prog_1_method_74_code.data.toList.drop 0) 0 cd_106 = true := by decide +kernel
theorem wk_107 : am_walk (prog_1_method_73_code.data.toList.drop 0) 0 cd_107 = true := by decide +kernel
theorem wk_108 : am_walk (prog_1_method_76_code.data.toList.drop 0) 0 cd_108 = true := by decide +kernel
theorem wk_109 : am_walk (prog_1_method_77_code.data.toList.drop 0) 0 cd_109 = true := by decide +kernel
theorem wk_110 : am_walk (prog_1_method_78_code.data.toList.drop 0) 0 cd_110 = true := by decide +kernel
theorem wk_111 : am_walk (prog_1_method_79_code.data.toList.drop 0) 0 cd_111 = true := by decide +kernel
theorem wk_112 : am_walk (prog_1_method_81_code.data.toList.drop 0) 0 cd_112 = true := by decide +kernel
theorem wk_113 : am_walk (prog_1_method_80_code.data.toList.drop 0) 0 cd_113 = true := by decide +kernel
theorem wk_114 : am_walk (prog_1_method_82_code.data.toList.drop 0) 0 cd_114 = true := by decide +kernel
theorem wk_115 : am_walk (prog_1_method_89_code.data.toList.drop 0) 0 cd_115 = true := by decide +kernel
theorem wk_116 : am_walk (prog_1_method_85_code.data.toList.drop 0) 0 cd_116 = true := by decide +kernel
theorem wk_117 : am_walk (prog_1_method_88_code.data.toList.drop 0) 0 cd_117 = true := by decide +kernel
theorem wk_118 : am_walk (prog_1_method_83_code.data.toList.drop 0) 0 cd_118 = true := by decide +kernel
theorem wk_119 : am_walk (prog_1_method_86_code.data.toList.drop 0) 0 cd_119 = true := by decide +kernel
theorem wk_120 : am_walk (prog_1_method_84_code.data.toList.drop 0) 0 cd_120 = true := by decide +kernel
theorem wk_121 : am_walk (prog_1_method_87_code.data.toList.drop 0) 0 cd_121 = true := by decide +kernel
theorem wk_122 : am_walk (prog_1_method_99_code.data.toList.drop 0) 0 cd_122 = true := by decide +kernel
theorem wk_123 : am_walk (prog_1_method_93_code.data.toList.drop 0) 0 cd_123 = true := by decide +kernel
theorem wk_124 : am_walk (prog_1_method_92_code.data.toList.drop 0) 0 cd_124 = true := by decide +kernel
theorem wk_125 : am_walk (prog_1_method_91_code.data.toList.drop 0) 0 cd_125 = true := by decide +kernel
theorem wk_126 : am_walk (prog_1_method_94_code.data.toList.drop 0) 0 cd_126 = true := by decide +kernel
theorem wk_127 : am_walk (prog_1_method_95_code.data.toList.drop 0) 0 cd_127 = true := by decide +kernel
theorem wk_128 : am_walk (prog_1_method_90_code.data.toList.drop 0) 0 cd_128 = true := by decide +kernel
theorem wk_129 : am_walk (prog_1_method_96_code.data.toList.drop 0) 0 cd_129 = true := by decide +kernel
theorem wk_130 : am_walk (prog_1_method_97_code.data.toList.drop 0) 0 cd_130 = true := by decide +kernel
theorem wk_131 : am_walk (prog_1_method_98_code.data.toList.drop 0) 0 cd_131 = true := by decide +kernel
theorem wo_131_90 : decode prog_1_method_98_code 90 = .ok (.lookupswitch 154 #[(52, 86), (53, 86), (54, 86), (65, 117), (70, 58), (145, 97)], 58) := by decide +kernel
theorem wk_132 : am_walk (prog_1_method_103_code.data.toList.drop 0) 0 cd_132 = true := by decide +kernel
theorem wk_133 : am_walk (prog_1_method_100_code.data.toList.drop 0) 0 cd_133 = true := by decide +kernel
theorem wk_134 : am_walk (prog_1_method_101_code.data.toList.drop 0) 0 cd_134 = true := by decide +kernel
theorem wk_135 : am_walk (prog_1_method_104_code.data.toList.drop 0) 0 cd_135 = true := by decide +kernel
theorem wk_136 : am_walk (prog_1_method_105_code.data.toList.drop 0) 0 cd_136 = true := by decide +kernel
theorem wk_137 : am_walk (prog_1_method_108_code.data.toList.drop 0) 0 cd_137 = true := by decide +kernel
theorem wk_138 : am_walk (prog_1_method_109_code.data.toList.drop 0) 0 cd_138 = true := by decide +kernel
theorem wk_139 : am_walk (prog_1_method_111_code.data.toList.drop 0) 0 cd_139 = true := by decide +kernel
theorem wk_140 : am_walk (prog_1_method_110_code.data.toList.drop 0) 0 cd_140 = true := by decide +kernel
theorem wk_141 : am_walk (prog_1_method_112_code.data.toList.drop 0) 0 cd_141 = true := by decide +kernel
theorem wk_142 : am_walk (prog_1_method_102_code.data.toList.drop 0) 0 cd_142 = true := by decide +kernel
theorem wk_143 : am_walk (prog_1_method_113_code.data.toList.drop 0) 0 cd_143 = true := by decide +kernel
theorem wk_144 : am_walk (prog_1_method_114_code.data.toList.drop 0) 0 cd_144 = true := by decide +kernel
theorem wk_145 : am_walk (prog_1_method_115_code.data.toList.drop 0) 0 cd_145 = true := by decide +kernel
theorem wk_146 : am_walk (prog_1_method_116_code.data.toList.drop 0) 0 cd_146 = true := by decide +kernel
theorem wo_146_1 : decode prog_1_method_116_code 1 = .ok (.tableswitch 69 0 5 #[39, 44, 49, 54, 59, 64], 39) := by decide +kernel
theorem wk_147 : am_walk (prog_14_method_1_code.data.toList.drop 0) 0 cd_147 = true := by decide +kernel
theorem wo_147_13 : decode prog_14_method_1_code 13 = .ok (.newarray .int, 2) := by decide +kernel
theorem wo_147_22 : decode prog_14_method_1_code 22 = .ok (.newarray .int, 2) := by decide +kernel
theorem wo_147_31 : decode prog_14_method_1_code 31 = .ok (.newarray .int, 2) := by decide +kernel
theorem wo_147_40 : decode prog_14_method_1_code 40 = .ok (.newarray .int, 2) := by decide +kernel
theorem wk_148 : am_walk (prog_14_method_4_code.data.toList.drop 0) 0 cd_148 = true := by decide +kernel
theorem wk_149 : am_walk (prog_14_method_5_code.data.toList.drop 0) 0 cd_149 = true := by decide +kernel
theorem wk_150 : am_walk (prog_14_method_2_code.data.toList.drop 0) 0 cd_150 = true := by decide +kernel
theorem wk_151 : am_walk (prog_14_method_6_code.data.toList.drop 0) 0 cd_151 = true := by decide +kernel
theorem wk_152 : am_walk (prog_14_method_3_code.data.toList.drop 0) 0 cd_152 = true := by decide +kernel
theorem wk_153 : am_walk (prog_14_method_10_code.data.toList.drop 0) 0 cd_153 = true := by decide +kernel
theorem wk_154 : am_walk (prog_14_method_14_code.data.toList.drop 0) 0 cd_154 = true := by decide +kernel
theorem wk_155 : am_walk (prog_14_method_12_code.data.toList.drop 0) 0 cd_155 = true := by decide +kernel
theorem wk_156 : am_walk (prog_14_method_11_code.data.toList.drop 0) 0 cd_156 = true := by decide +kernel
theorem wk_157 : am_walk (prog_14_method_15_code.data.toList.drop 0) 0 cd_157 = true := by decide +kernel
theorem wk_158 : am_walk (prog_14_method_9_code.data.toList.drop 0) 0 cd_158 = true := by decide +kernel
theorem wk_159 : am_walk (prog_14_method_13_code.data.toList.drop 0) 0 cd_159 = true := by decide +kernel
theorem wk_160 : am_walk (prog_14_method_8_code.data.toList.drop 0) 0 cd_160 = true := by decide +kernel
theorem wk_161 : am_walk (prog_14_method_7_code.data.toList.drop 0) 0 cd_161 = true := by decide +kernel
theorem wk_162 : am_walk (prog_2_method_1_code.data.toList.drop 0) 0 cd_162 = true := by decide +kernel
theorem wk_163 : am_walk (prog_2_method_2_code.data.toList.drop 0) 0 cd_163 = true := by decide +kernel
theorem wk_164 : am_walk (prog_4_method_1_code.data.toList.drop 0) 0 cd_164 = true := by decide +kernel
theorem wk_165 : am_walk (prog_4_method_6_code.data.toList.drop 0) 0 cd_165 = true := by decide +kernel
theorem wk_166 : am_walk (prog_4_method_3_code.data.toList.drop 0) 0 cd_166 = true := by decide +kernel
theorem wk_167 : am_walk (prog_4_method_2_code.data.toList.drop 0) 0 cd_167 = true := by decide +kernel
theorem wk_168 : am_walk (prog_4_method_4_code.data.toList.drop 0) 0 cd_168 = true := by decide +kernel
theorem wk_169 : am_walk (prog_18_method_1_code.data.toList.drop 0) 0 cd_169 = true := by decide +kernel
theorem wk_170 : am_walk (prog_6_method_1_code.data.toList.drop 0) 0 cd_170 = true := by decide +kernel
theorem wk_171 : am_walk (prog_6_method_5_code.data.toList.drop 0) 0 cd_171 = true := by decide +kernel
theorem wk_172 : am_walk (prog_6_method_2_code.data.toList.drop 0) 0 cd_172 = true := by decide +kernel
theorem wk_173 : am_walk (prog_6_method_4_code.data.toList.drop 0) 0 cd_173 = true := by decide +kernel
theorem wo_173_1 : decode prog_6_method_4_code 1 = .ok (.invokeinterface 63 1, 5) := by decide +kernel
theorem wk_174 : am_walk (prog_11_method_2_code.data.toList.drop 0) 0 cd_174 = true := by decide +kernel
theorem wk_175 : am_walk (prog_20_method_10_code.data.toList.drop 0) 0 cd_175 = true := by decide +kernel
theorem wk_176 : am_walk (prog_20_method_11_code.data.toList.drop 0) 0 cd_176 = true := by decide +kernel
theorem wk_177 : am_walk (prog_20_method_12_code.data.toList.drop 0) 0 cd_177 = true := by decide +kernel
theorem wk_178 : am_walk (prog_20_method_13_code.data.toList.drop 0) 0 cd_178 = true := by decide +kernel
theorem wk_179 : am_walk (prog_20_method_14_code.data.toList.drop 0) 0 cd_179 = true := by decide +kernel
theorem wo_179_8 : decode prog_20_method_14_code 8 = .ok (.newarray .int, 2) := by decide +kernel
theorem wo_179_17 : decode prog_20_method_14_code 17 = .ok (.newarray .int, 2) := by decide +kernel
theorem wo_179_26 : decode prog_20_method_14_code 26 = .ok (.newarray .int, 2) := by decide +kernel
theorem wo_179_34 : decode prog_20_method_14_code 34 = .ok (.newarray .long, 2) := by decide +kernel
theorem wo_179_42 : decode prog_20_method_14_code 42 = .ok (.newarray .long, 2) := by decide +kernel
theorem wo_179_49 : decode prog_20_method_14_code 49 = .ok (.newarray .long, 2) := by decide +kernel
theorem wo_179_57 : decode prog_20_method_14_code 57 = .ok (.newarray .long, 2) := by decide +kernel
theorem wo_179_64 : decode prog_20_method_14_code 64 = .ok (.newarray .long, 2) := by decide +kernel
theorem wo_179_72 : decode prog_20_method_14_code 72 = .ok (.newarray .long, 2) := by decide +kernel
theorem wo_179_81 : decode prog_20_method_14_code 81 = .ok (.newarray .int, 2) := by decide +kernel
theorem wo_179_89 : decode prog_20_method_14_code 89 = .ok (.newarray .int, 2) := by decide +kernel
theorem wo_179_102 : decode prog_20_method_14_code 102 = .ok (.newarray .int, 2) := by decide +kernel
theorem wo_179_110 : decode prog_20_method_14_code 110 = .ok (.newarray .int, 2) := by decide +kernel
theorem wo_179_119 : decode prog_20_method_14_code 119 = .ok (.newarray .int, 2) := by decide +kernel
theorem wo_179_127 : decode prog_20_method_14_code 127 = .ok (.newarray .boolean, 2) := by decide +kernel
theorem wo_179_135 : decode prog_20_method_14_code 135 = .ok (.newarray .int, 2) := by decide +kernel
theorem wo_179_143 : decode prog_20_method_14_code 143 = .ok (.newarray .int, 2) := by decide +kernel
theorem wo_179_151 : decode prog_20_method_14_code 151 = .ok (.newarray .int, 2) := by decide +kernel
theorem wo_179_159 : decode prog_20_method_14_code 159 = .ok (.newarray .int, 2) := by decide +kernel
theorem wo_179_167 : decode prog_20_method_14_code 167 = .ok (.newarray .int, 2) := by decide +kernel
theorem wo_179_175 : decode prog_20_method_14_code 175 = .ok (.newarray .int, 2) := by decide +kernel
theorem wo_179_183 : decode prog_20_method_14_code 183 = .ok (.newarray .boolean, 2) := by decide +kernel
theorem wo_179_191 : decode prog_20_method_14_code 191 = .ok (.newarray .int, 2) := by decide +kernel
theorem wo_179_199 : decode prog_20_method_14_code 199 = .ok (.newarray .int, 2) := by decide +kernel
theorem wo_179_207 : decode prog_20_method_14_code 207 = .ok (.newarray .int, 2) := by decide +kernel
theorem wo_179_215 : decode prog_20_method_14_code 215 = .ok (.newarray .int, 2) := by decide +kernel
theorem wo_179_223 : decode prog_20_method_14_code 223 = .ok (.newarray .int, 2) := by decide +kernel
theorem wo_179_231 : decode prog_20_method_14_code 231 = .ok (.newarray .int, 2) := by decide +kernel
theorem wo_179_239 : decode prog_20_method_14_code 239 = .ok (.newarray .int, 2) := by decide +kernel
theorem wo_179_248 : decode prog_20_method_14_code 248 = .ok (.newarray .int, 2) := by decide +kernel
theorem wo_179_257 : decode prog_20_method_14_code 257 = .ok (.newarray .int, 2) := by decide +kernel
theorem wo_179_266 : decode prog_20_method_14_code 266 = .ok (.newarray .int, 2) := by decide +kernel
theorem wo_179_275 : decode prog_20_method_14_code 275 = .ok (.newarray .int, 2) := by decide +kernel
theorem wo_179_289 : decode prog_20_method_14_code 289 = .ok (.newarray .int, 2) := by decide +kernel
theorem wo_179_298 : decode prog_20_method_14_code 298 = .ok (.newarray .int, 2) := by decide +kernel
theorem wk_180 : am_walk (prog_20_method_135_code.data.toList.drop 0) 0 cd_180 = true := by decide +kernel
theorem wk_181 : am_walk (prog_20_method_134_code.data.toList.drop 0) 0 cd_181 = true := by decide +kernel
theorem wk_182 : am_walk (prog_20_method_9_code.data.toList.drop 0) 0 cd_182 = true := by decide +kernel
theorem wk_183 : am_walk (prog_20_method_8_code.data.toList.drop 0) 0 cd_183 = true := by decide +kernel
theorem wk_184 : am_walk (prog_20_method_4_code.data.toList.drop 0) 0 cd_184 = true := by decide +kernel
theorem wk_185 : am_walk (prog_20_method_58_code.data.toList.drop 0) 0 cd_185 = true := by decide +kernel
theorem wk_186 : am_walk (prog_20_method_2_code.data.toList.drop 0) 0 cd_186 = true := by decide +kernel
theorem wk_187 : am_walk (prog_20_method_57_code.data.toList.drop 0) 0 cd_187 = true := by decide +kernel
theorem wk_188 : am_walk (prog_20_method_3_code.data.toList.drop 0) 0 cd_188 = true := by decide +kernel
theorem wk_189 : am_walk (prog_20_method_56_code.data.toList.drop 0) 0 cd_189 = true := by decide +kernel
theorem wk_190 : am_walk (prog_20_method_55_code.data.toList.drop 0) 0 cd_190 = true := by decide +kernel
theorem wk_191 : am_walk (prog_20_method_43_code.data.toList.drop 0) 0 cd_191 = true := by decide +kernel
theorem wk_192 : am_walk (prog_20_method_39_code.data.toList.drop 0) 0 cd_192 = true := by decide +kernel
theorem wk_193 : am_walk (prog_20_method_19_code.data.toList.drop 0) 0 cd_193 = true := by decide +kernel
theorem wk_194 : am_walk (prog_20_method_18_code.data.toList.drop 0) 0 cd_194 = true := by decide +kernel
theorem wk_195 : am_walk (prog_20_method_16_code.data.toList.drop 0) 0 cd_195 = true := by decide +kernel
theorem wk_196 : am_walk (prog_20_method_17_code.data.toList.drop 0) 0 cd_196 = true := by decide +kernel
theorem wk_197 : am_walk (prog_20_method_30_code.data.toList.drop 0) 0 cd_197 = true := by decide +kernel
theorem wk_198 : am_walk (prog_20_method_22_code.data.toList.drop 0) 0 cd_198 = true := by decide +kernel
theorem wk_199 : am_walk (prog_20_method_21_code.data.toList.drop 0) 0 cd_199 = true := by decide +kernel
theorem wk_200 : am_walk (prog_20_method_15_code.data.toList.drop 0) 0 cd_200 = true := by decide +kernel
theorem wk_201 : am_walk (prog_20_method_20_code.data.toList.drop 0) 0 cd_201 = true := by decide +kernel
theorem wk_202 : am_walk (prog_20_method_28_code.data.toList.drop 0) 0 cd_202 = true := by decide +kernel
theorem wk_203 : am_walk (prog_20_method_29_code.data.toList.drop 0) 0 cd_203 = true := by decide +kernel
theorem wk_204 : am_walk (prog_20_method_26_code.data.toList.drop 0) 0 cd_204 = true := by decide +kernel
theorem wk_205 : am_walk (prog_20_method_24_code.data.toList.drop 0) 0 cd_205 = true := by decide +kernel
theorem wk_206 : am_walk (prog_20_method_23_code.data.toList.drop 0) 0 cd_206 = true := by decide +kernel
theorem wk_207 : am_walk (prog_20_method_34_code.data.toList.drop 0) 0 cd_207 = true := by decide +kernel
theorem wk_208 : am_walk (prog_20_method_38_code.data.toList.drop 0) 0 cd_208 = true := by decide +kernel
theorem wk_209 : am_walk (prog_20_method_36_code.data.toList.drop 0) 0 cd_209 = true := by decide +kernel
theorem wk_210 : am_walk (prog_20_method_35_code.data.toList.drop 0) 0 cd_210 = true := by decide +kernel
theorem wk_211 : am_walk (prog_20_method_33_code.data.toList.drop 0) 0 cd_211 = true := by decide +kernel
theorem wk_212 : am_walk (prog_20_method_31_code.data.toList.drop 0) 0 cd_212 = true := by decide +kernel
theorem wk_213 : am_walk (prog_20_method_27_code.data.toList.drop 0) 0 cd_213 = true := by decide +kernel
theorem wk_214 : am_walk (prog_20_method_32_code.data.toList.drop 0) 0 cd_214 = true := by decide +kernel
theorem wk_215 : am_walk (prog_20_method_37_code.data.toList.drop 0) 0 cd_215 = true := by decide +kernel
theorem wk_216 : am_walk (prog_20_method_41_code.data.toList.drop 0) 0 cd_216 = true := by decide +kernel
theorem wk_217 : am_walk (prog_20_method_40_code.data.toList.drop 0) 0 cd_217 = true := by decide +kernel
theorem wk_218 : am_walk (prog_20_method_42_code.data.toList.drop 0) 0 cd_218 = true := by decide +kernel
theorem wk_219 : am_walk (prog_20_method_5_code.data.toList.drop 0) 0 cd_219 = true := by decide +kernel
theorem wk_220 : am_walk (prog_20_method_44_code.data.toList.drop 0) 0 cd_220 = true := by decide +kernel
theorem wk_221 : am_walk (prog_20_method_45_code.data.toList.drop 0) 0 cd_221 = true := by decide +kernel
theorem wk_222 : am_walk (prog_20_method_7_code.data.toList.drop 0) 0 cd_222 = true := by decide +kernel
theorem wk_223 : am_walk (prog_20_method_6_code.data.toList.drop 0) 0 cd_223 = true := by decide +kernel
theorem wk_224 : am_walk (prog_20_method_46_code.data.toList.drop 0) 0 cd_224 = true := by decide +kernel
theorem wk_225 : am_walk (prog_20_method_47_code.data.toList.drop 0) 0 cd_225 = true := by decide +kernel
theorem wk_226 : am_walk (prog_20_method_54_code.data.toList.drop 0) 0 cd_226 = true := by decide +kernel
theorem wk_227 : am_walk (prog_20_method_53_code.data.toList.drop 0) 0 cd_227 = true := by decide +kernel
theorem wk_228 : am_walk (prog_20_method_49_code.data.toList.drop 0) 0 cd_228 = true := by decide +kernel
theorem wk_229 : am_walk (prog_20_method_48_code.data.toList.drop 0) 0 cd_229 = true := by decide +kernel
theorem wk_230 : am_walk (prog_20_method_51_code.data.toList.drop 0) 0 cd_230 = true := by decide +kernel
theorem wk_231 : am_walk (prog_20_method_50_code.data.toList.drop 0) 0 cd_231 = true := by decide +kernel
theorem wk_232 : am_walk (prog_20_method_52_code.data.toList.drop 0) 0 cd_232 = true := by decide +kernel
theorem wk_233 : am_walk (prog_20_method_60_code.data.toList.drop 0) 0 cd_233 = true := by decide +kernel
theorem wk_234 : am_walk (prog_20_method_59_code.data.toList.drop 0) 0 cd_234 = true := by decide +kernel
theorem wk_235 : am_walk (prog_20_method_61_code.data.toList.drop 0) 0 cd_235 = true := by decide +kernel
theorem wk_236 : am_walk (prog_20_method_75_code.data.toList.drop 0) 0 cd_236 = true := by decide +kernel
theorem wk_237 : am_walk (prog_20_method_73_code.data.toList.drop 0) 0 cd_237 = true := by decide +kernel
theorem wk_238 : am_walk (prog_20_method_63_code.data.toList.drop 0) 0 cd_238 = true := by decide +kernel
theorem wk_239 : am_walk (prog_20_method_65_code.data.toList.drop 0) 0 cd_239 = true := by decide +kernel
theorem wo_239_1 : decode prog_20_method_65_code 1 = .ok (.tableswitch 267 1 9 #[51, 70, 89, 117, 150, 182, 200, 217, 246], 51) := by decide +kernel
theorem wk_240 : am_walk (prog_20_method_64_code.data.toList.drop 0) 0 cd_240 = true := by decide +kernel
theorem wk_241 : am_walk (prog_20_method_62_code.data.toList.drop 0) 0 cd_241 = true := by decide +kernel
theorem wk_242 : am_walk (prog_20_method_74_code.data.toList.drop 0) 0 cd_242 = true := by decide +kernel
theorem wk_243 : am_walk (prog_20_method_66_code.data.toList.drop 0) 0 cd_243 = true := by decide +kernel
theorem wo_243_11 : decode prog_20_method_66_code 11 = .ok (.tableswitch 279 0 6 #[41, 69, 97, 128, 172, 211, 261], 41) := by decide +kernel
theorem wk_244 : am_walk (prog_20_method_67_code.data.toList.drop 0) 0 cd_244 = true := by decide +kernel
theorem wk_245 : am_walk (prog_20_method_70_code.data.toList.drop 0) 0 cd_245 = true := by decide +kernel
theorem wk_246 : am_walk (prog_20_method_69_code.data.toList.drop 0) 0 cd_246 = true := by decide +kernel
theorem wk_247 : am_walk (prog_20_method_68_code.data.toList.drop 0) 0 cd_247 = true := by decide +kernel
theorem wo_247_1 : decode prog_20_method_68_code 1 = .ok (.tableswitch 130 1 11 #[59, 64, 70, 76, 82, 89, 95, 102, 109, 116, 123], 59) := by decide +kernel
theorem wk_248 : am_walk (prog_20_method_72_code.data.toList.drop 0) 0 cd_248 = true := by decide +kernel
theorem wk_249 : am_walk (prog_20_method_71_code.data.toList.drop 0) 0 cd_249 = true := by decide +kernel
theorem wk_250 : am_walk (prog_20_method_76_code.data.toList.drop 0) 0 cd_250 = true := by decide +kernel
theorem wk_251 : am_walk (prog_20_method_77_code.data.toList.drop 0) 0 cd_251 = true := by decide +kernel
theorem wk_252 : am_walk (prog_20_method_80_code.data.toList.drop 0) 0 cd_252 = true := by decide +kernel
theorem wk_253 : am_walk (prog_20_method_79_code.data.toList.drop 0) 0 cd_253 = true := by decide +kernel
theorem wk_254 : am_walk (prog_20_method_78_code.data.toList.drop 0) 0 cd_254 = true := by decide +kernel
theorem wk_255 : am_walk (prog_20_method_81_code.data.toList.drop 0) 0 cd_255 = true := by decide +kernel
theorem wk_256 : am_walk (prog_20_method_86_code.data.toList.drop 0) 0 cd_256 = true := by decide +kernel
theorem wk_257 : am_walk (prog_20_method_85_code.data.toList.drop 0) 0 cd_257 = true := by decide +kernel
theorem wk_258 : am_walk (prog_20_method_84_code.data.toList.drop 0) 0 cd_258 = true := by decide +kernel
theorem wk_259 : am_walk (prog_20_method_83_code.data.toList.drop 0) 0 cd_259 = true := by decide +kernel
theorem wk_260 : am_walk (prog_20_method_89_code.data.toList.drop 0) 0 cd_260 = true := by decide +kernel
theorem wk_261 : am_walk (prog_20_method_88_code.data.toList.drop 0) 0 cd_261 = true := by decide +kernel
theorem wk_262 : am_walk (prog_20_method_87_code.data.toList.drop 0) 0 cd_262 = true := by decide +kernel
theorem wk_263 : am_walk (prog_20_method_82_code.data.toList.drop 0) 0 cd_263 = true := by decide +kernel
theorem wk_264 : am_walk (prog_20_method_92_code.data.toList.drop 0) 0 cd_264 = true := by decide +kernel
theorem wk_265 : am_walk (prog_20_method_91_code.data.toList.drop 0) 0 cd_265 = true := by decide +kernel
theorem wk_266 : am_walk (prog_20_method_90_code.data.toList.drop 0) 0 cd_266 = true := by decide +kernel
theorem wk_267 : am_walk (prog_20_method_93_code.data.toList.drop 0) 0 cd_267 = true := by decide +kernel
theorem wk_268 : am_walk (prog_20_method_94_code.data.toList.drop 0) 0 cd_268 = true := by decide +kernel
theorem wk_269 : am_walk (prog_20_method_95_code.data.toList.drop 0) 0 cd_269 = true := by decide +kernel
theorem wk_270 : am_walk (prog_20_method_99_code.data.toList.drop 0) 0 cd_270 = true := by decide +kernel
theorem wk_271 : am_walk (prog_20_method_97_code.data.toList.drop 0) 0 cd_271 = true := by decide +kernel
theorem wk_272 : am_walk (prog_20_method_96_code.data.toList.drop 0) 0 cd_272 = true := by decide +kernel
theorem wk_273 : am_walk (prog_20_method_98_code.data.toList.drop 0) 0 cd_273 = true := by decide +kernel
theorem wk_274 : am_walk (prog_20_method_102_code.data.toList.drop 0) 0 cd_274 = true := by decide +kernel
theorem wk_275 : am_walk (prog_20_method_101_code.data.toList.drop 0) 0 cd_275 = true := by decide +kernel
theorem wk_276 : am_walk (prog_20_method_100_code.data.toList.drop 0) 0 cd_276 = true := by decide +kernel
theorem wk_277 : am_walk (prog_20_method_103_code.data.toList.drop 0) 0 cd_277 = true := by decide +kernel
theorem wk_278 : am_walk (prog_20_method_107_code.data.toList.drop 0) 0 cd_278 = true := by decide +kernel
theorem wk_279 : am_walk (prog_20_method_105_code.data.toList.drop 0) 0 cd_279 = true := by decide +kernel
theorem wk_280 : am_walk (prog_20_method_104_code.data.toList.drop 0) 0 cd_280 = true := by decide +kernel
theorem wk_281 : am_walk (prog_20_method_106_code.data.toList.drop 0) 0 cd_281 = true := by decide +kernel
theorem wk_282 : am_walk (prog_20_method_121_code.data.toList.drop 0) 0 cd_282 = true := by decide +kernel
theorem wk_283 : am_walk (prog_20_method_112_code.data.toList.drop 0) 0 cd_283 = true := by decide +kernel
theorem wk_284 : am_walk (prog_20_method_111_code.data.toList.drop 0) 0 cd_284 = true := by decide +kernel
theorem wk_285 : am_walk (prog_20_method_110_code.data.toList.drop 0) 0 cd_285 = true := by decide +kernel
theorem wk_286 : am_walk (prog_20_method_113_code.data.toList.drop 0) 0 cd_286 = true := by decide +kernel
theorem wk_287 : am_walk (prog_20_method_114_code.data.toList.drop 0) 0 cd_287 = true := by decide +kernel
theorem wk_288 : am_walk (prog_20_method_109_code.data.toList.drop 0) 0 cd_288 = true := by decide +kernel
theorem wk_289 : am_walk (prog_20_method_108_code.data.toList.drop 0) 0 cd_289 = true := by decide +kernel
theorem wk_290 : am_walk (prog_20_method_115_code.data.toList.drop 0) 0 cd_290 = true := by decide +kernel
theorem wk_291 : am_walk (prog_20_method_117_code.data.toList.drop 0) 0 cd_291 = true := by decide +kernel
theorem wk_292 : am_walk (prog_20_method_118_code.data.toList.drop 0) 0 cd_292 = true := by decide +kernel
theorem wk_293 : am_walk (prog_20_method_119_code.data.toList.drop 0) 0 cd_293 = true := by decide +kernel
theorem wk_294 : am_walk (prog_20_method_25_code.data.toList.drop 0) 0 cd_294 = true := by decide +kernel
theorem wk_295 : am_walk (prog_20_method_120_code.data.toList.drop 0) 0 cd_295 = true := by decide +kernel
theorem wk_296 : am_walk (prog_20_method_116_code.data.toList.drop 0) 0 cd_296 = true := by decide +kernel
theorem wk_297 : am_walk (prog_20_method_131_code.data.toList.drop 0) 0 cd_297 = true := by decide +kernel
theorem wk_298 : am_walk (prog_20_method_129_code.data.toList.drop 0) 0 cd_298 = true := by decide +kernel
theorem wk_299 : am_walk (prog_20_method_124_code.data.toList.drop 0) 0 cd_299 = true := by decide +kernel
theorem wo_299_32 : decode prog_20_method_124_code 32 = .ok (.tableswitch 241 0 8 #[52, 66, 79, 96, 112, 143, 178, 241, 205], 52) := by decide +kernel
theorem wk_300 : am_walk (prog_20_method_126_code.data.toList.drop 0) 0 cd_300 = true := by decide +kernel
theorem wk_301 : am_walk (prog_20_method_123_code.data.toList.drop 0) 0 cd_301 = true := by decide +kernel
theorem wk_302 : am_walk (prog_20_method_122_code.data.toList.drop 0) 0 cd_302 = true := by decide +kernel
theorem wk_303 : am_walk (prog_20_method_128_code.data.toList.drop 0) 0 cd_303 = true := by decide +kernel
theorem wo_303_208 : decode prog_20_method_128_code 208 = .ok (.tableswitch 226 1 7 #[44, 72, 89, 106, 168, 187, 207], 44) := by decide +kernel
theorem wk_304 : am_walk (prog_20_method_127_code.data.toList.drop 0) 0 cd_304 = true := by decide +kernel
theorem wk_305 : am_walk (prog_20_method_125_code.data.toList.drop 0) 0 cd_305 = true := by decide +kernel
theorem wk_306 : am_walk (prog_20_method_132_code.data.toList.drop 0) 0 cd_306 = true := by decide +kernel
theorem wk_307 : am_walk (prog_20_method_133_code.data.toList.drop 0) 0 cd_307 = true := by decide +kernel
theorem wk_308 : am_walk (prog_20_method_136_code.data.toList.drop 0) 0 cd_308 = true := by decide +kernel
theorem wk_309 : am_walk (prog_20_method_137_code.data.toList.drop 0) 0 cd_309 = true := by decide +kernel
theorem wk_310 : am_walk (prog_20_method_138_code.data.toList.drop 0) 0 cd_310 = true := by decide +kernel
theorem wk_311 : am_walk (prog_20_method_141_code.data.toList.drop 0) 0 cd_311 = true := by decide +kernel
theorem wk_312 : am_walk (prog_20_method_140_code.data.toList.drop 0) 0 cd_312 = true := by decide +kernel
theorem wk_313 : am_walk (prog_20_method_139_code.data.toList.drop 0) 0 cd_313 = true := by decide +kernel
theorem wk_314 : am_walk (prog_20_method_130_code.data.toList.drop 0) 0 cd_314 = true := by decide +kernel
theorem wk_315 : am_walk (prog_20_method_142_code.data.toList.drop 0) 0 cd_315 = true := by decide +kernel
theorem wk_316 : am_walk (prog_20_method_143_code.data.toList.drop 0) 0 cd_316 = true := by decide +kernel
theorem wk_317 : am_walk (prog_20_method_144_code.data.toList.drop 0) 0 cd_317 = true := by decide +kernel
theorem wk_318 : am_walk (prog_20_method_145_code.data.toList.drop 0) 0 cd_318 = true := by decide +kernel
theorem wo_318_1 : decode prog_20_method_145_code 1 = .ok (.tableswitch 69 0 5 #[39, 44, 49, 54, 59, 64], 39) := by decide +kernel
theorem wk_319 : am_walk (prog_5_method_2_code.data.toList.drop 0) 0 cd_319 = true := by decide +kernel
theorem wk_320 : am_walk (prog_12_method_1_code.data.toList.drop 0) 0 cd_320 = true := by decide +kernel
theorem wk_321 : am_walk (prog_12_method_2_code.data.toList.drop 0) 0 cd_321 = true := by decide +kernel
theorem wk_322 : am_walk (prog_7_method_1_code.data.toList.drop 0) 0 cd_322 = true := by decide +kernel
theorem wk_323 : am_walk (prog_7_method_3_code.data.toList.drop 0) 0 cd_323 = true := by decide +kernel
theorem wk_324 : am_walk (prog_7_method_5_code.data.toList.drop 0) 0 cd_324 = true := by decide +kernel
theorem wk_325 : am_walk (prog_7_method_4_code.data.toList.drop 0) 0 cd_325 = true := by decide +kernel
theorem wk_326 : am_walk (prog_7_method_6_code.data.toList.drop 0) 0 cd_326 = true := by decide +kernel
theorem wk_327 : am_walk (prog_9_method_1_code.data.toList.drop 0) 0 cd_327 = true := by decide +kernel
theorem wk_328 : am_walk (prog_9_method_3_code.data.toList.drop 0) 0 cd_328 = true := by decide +kernel
theorem wk_329 : am_walk (prog_9_method_6_code.data.toList.drop 0) 0 cd_329 = true := by decide +kernel
theorem wk_330 : am_walk (prog_9_method_4_code.data.toList.drop 0) 0 cd_330 = true := by decide +kernel
theorem wk_331 : am_walk (prog_9_method_5_code.data.toList.drop 0) 0 cd_331 = true := by decide +kernel
theorem wk_332 : am_walk (prog_8_method_1_code.data.toList.drop 0) 0 cd_332 = true := by decide +kernel
theorem wk_333 : am_walk (prog_13_method_1_code.data.toList.drop 0) 0 cd_333 = true := by decide +kernel
theorem wk_334 : am_walk (prog_16_method_1_code.data.toList.drop 0) 0 cd_334 = true := by decide +kernel
theorem wk_335 : am_walk (prog_17_method_1_code.data.toList.drop 0) 0 cd_335 = true := by decide +kernel
-- missing: [30]
